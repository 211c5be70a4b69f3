/-! morning (written by gen/m_morn4.py) -/
theorem C_X1_morning {G : zG}  {S : zS} {m : zMm} {x : Int} {A : zMm} (hR : rel S m x A) {from_ : Int} (hf : zi from_) : zC G mX1_morning 4 0 0 [zR x, zI from_] S m (zPo S m x (some (zI (zite (((aK (A 0 1023) (A 2)) 5) = 0) (-1) (mOu ((aK (A 0 1023) (A 2)) 5) ((aK (A 0 1023) (A 2)) 0).toNat 320 (from_) (fun j => (aK (A 0 1023) (A 2)) (8 + 3 * (j / 2) + j % 2)) (fAll (aK (A 0 1023) (A 2)) ((aK (A 0 1023) (A 2)) 5)))))) A) zNX := by
  have hk := hR.vki.1
  have hKi := (hR.ki.2.1).ki hk
  have hKn := hKi.nu
  have hkr := hR.ki.2.1
  have hkf := hkr.2.1
  have hk0 := hk.1
  refine zC.of [zR x, zI from_] (by decide) rfl (zEn1 (zcR _) (zEn1 (zcI _) (zEn0 (by simp)))) rfl ?_
  refine zT.aload_n 0 dX1_morning_0 rfl rfl ?_
  refine zT.getR dX1_morning_1 fX1_66 rfl (zPan.k hR.sh) (j := 7) (by decide) rfl ?_
  refine zT.getI dX1_morning_4 fX1_228 rfl (zKit.k hR.ki.2.1.1) (j := 8) (by decide) rfl (fun z4 => ?_)
  refine zT.if_ne (tgt := 14) dX1_morning_7 (by decide) (by first | assumption | exact zq_i _ | exact zand_i _ _ | exact zor_i _ _ | exact zxor_i _ _ | exact zN _ | omega) (fun c7 => ?_) (fun c7 => ?_)
  · refine zT.aload_n 0 dX1_morning_14 rfl rfl ?_
    refine zT.iload_n 1 dX1_morning_15 rfl rfl ?_
    refine zT.callV (M' := mX1_morningOf) (b := x) [zI from_] [] dX1_morning_16 kX1_466 rfl rfl (ci := 0) (r := (RX1, TX1, 42)) rfl (zPan.k hR.sh) (C_X1_morningOf hR hf) (by decide) (k' := 0) (n' := 0) (by omega) (by omega) (by decide) (fun v16 S16_ m16_ h16 => ?_) (fun _ _ _ _ h => h.elim)
    obtain ⟨rfl, g16, hR16, o16⟩ := h16
    show zT G _ _ _ _ [zI (mOu ((aK (A 0 1023) (A 2)) 5) ((aK (A 0 1023) (A 2)) 0).toNat 320 (from_) (fun j => (aK (A 0 1023) (A 2)) (8 + 3 * (j / 2) + j % 2)) (fAll (aK (A 0 1023) (A 2)) ((aK (A 0 1023) (A 2)) 5)))] _ _ _ _ _ _
    refine zT.iret dX1_morning_19 rfl ?_
    first | exact ⟨by rw [zite_t (by omega)], zGr.rf, hR, zOut.rf⟩ | exact ⟨by rw [zite_f (by omega)], g16, hR16, o16⟩
  · refine zT.iconst dX1_morning_10 ?_
    refine zT.goto (tgt := 19) dX1_morning_11 (by decide) ?_
    refine zT.iret dX1_morning_19 rfl ?_
    first | exact ⟨by rw [zite_t (by omega)], zGr.rf, hR, zOut.rf⟩ | exact ⟨by rw [zite_f (by omega)], g16, hR16, o16⟩

