/-! PanSlices.undo (written by gen/m_cls3.py) -/
theorem C_X1_undo {G : zG}  {S : zS} {m : zMm} {x : Int} {A : zMm} (hR : rel S m x A)  : zC G mX1_undo 3 0 0 [zR x] S m (zPo S m x (some (zI (if A 0 1022 = 0 then -1 else A 0 1022 - 1))) (if A 0 1022 = 0 then uLay A else uUndo (uLay A))) zNX := by
  have hpl := hR.pl
  have hpv := hR.vpl
  have hPl := hpl.pl hpv
  have hPl0 := hPl.1
  have hPl1 := hPl.2.1
  have hgn := hpl.2.1
  have hun := hR.un
  have hu0 := hun.1
  have huv := hR.vun.1
  have hL := hR.lay
  have hB : uLay A 0 1023 = 1 := uLay_bg hR.vbg
  have hu9 : uLay A 0 1022 = A 0 1022 := uLay_o (by omega) (by omega)
  refine zC.of [zR x] (by decide) rfl (zEn1 (zcR _) (zEn0 (by simp))) rfl ?_
  refine zT.aload_n 0 dX1_undo_0 rfl rfl ?_
  refine zT.getI dX1_undo_1 fX1_215 rfl (zPan.k hR.sh) (j := 17) (by decide) rfl (fun z1 => ?_)
  refine zT.if_ne (tgt := 9) dX1_undo_4 (by decide) (by first | assumption | exact zq_i _ | exact zand_i _ _ | exact zor_i _ _ | exact zxor_i _ _ | exact zN _ | omega) (fun c4 => ?_) (fun c4 => ?_)
  · have hpu := hun.2.2.1 (m x 17 - 1) (by omega) (by omega)
    have hpq := hpu.2.1
    have hpn := hpu.2.2.1
    have hpv2 := hR.vun.2 (m x 17 - 1) (by omega) (by omega)
    have hpv0 := hpv2.1
    have hpv1 := hpv2.2.1
    refine zT.aload_n 0 dX1_undo_9 rfl rfl ?_
    refine zT.dup dX1_undo_10 (zcR _) ?_
    refine zT.getI dX1_undo_11 fX1_215 rfl (zPan.k hR.sh) (j := 17) (by decide) rfl (fun z11 => ?_)
    refine zT.iconst dX1_undo_14 ?_
    refine zT.isub dX1_undo_15 ?_
    refine zT.putI dX1_undo_16 fX1_215 zs_17 rfl (zPan.k hR.sh) (j := 17) (by decide) rfl (by first | assumption | exact zq_i _ | exact zand_i _ _ | exact zor_i _ _ | exact zxor_i _ _ | exact zN _ | omega) ?_
    obtain ⟨m1, em1⟩ : ∃ z, z = zup m x 17 ((m x 17) - 1) := ⟨_, rfl⟩
    rw [← em1]
    refine zT.aload_n 0 dX1_undo_19 rfl rfl ?_
    refine zT.getF dX1_undo_20 fX1_73 rfl (zPan.k hR.sh) (j := 8) (by decide) rfl (zPan.f8 hR.sh) ?_
    refine zT.aload_n 0 dX1_undo_23 rfl rfl ?_
    refine zT.getF dX1_undo_24 fX1_103 rfl (zPan.k hR.sh) (j := 16) (by decide) rfl (zPan.f16 hR.sh) ?_
    refine zT.aload_n 0 dX1_undo_27 rfl rfl ?_
    refine zT.getI dX1_undo_28 fX1_215 rfl (zPan.k hR.sh) (j := 17) (by decide) rfl (fun z28 => ?_)
    have r28 : m1 x 17 = (m x 17) - 1 := by rw [em1, zup_at]
    rw [r28] at z28 ⊢
    have hz9 : m1 (m (x + 29) (m x 17 - 1)) 305 = A 5 (2001 * (m x 17 - 1)) := by
      rw [em1, zup_ne (by omega)]
      exact hpn
    refine zT.aald dX1_undo_31 (by rw [(zPan.a16 hR.sh)]; decide) (by first | assumption | exact zq_i _ | exact zand_i _ _ | exact zor_i _ _ | exact zxor_i _ _ | exact zN _ | omega) (by rw [(zPan.n16 hR.sh)]; first | assumption | exact zq_i _ | exact zand_i _ _ | exact zor_i _ _ | exact zxor_i _ _ | exact zN _ | omega) ?_
    have r31 : m1 (x + 29) ((m x 17) - 1) = m (x + 29) ((m x 17) - 1) := by rw [em1, zup_ne (by omega)]
    rw [r31]
    refine zT.callV (M' := mX4_be) (b := (x + 14)) [zR (m (x + 29) ((m x 17) - 1))] [] dX1_undo_32 kX1_273 rfl rfl (ci := 3) (r := (RX4, TX4, 6)) rfl (zPlan.k (zPan.o8 hR.sh)) (C_X4_be (zPan.o8 hR.sh) hpq (by omega) (by omega) (by omega) (by omega)) (by decide) (k' := 0) (n' := 0) (by omega) (by omega) (by decide) (zdk (v := none) ?_) (fun _ _ _ _ h => h.elim)
    show zT G _ _ _ _ [] _ _ _ _ _ _
    obtain ⟨m2, em2⟩ : ∃ z, z = zbe m1 (x + 14) (m (x + 29) ((m x 17) - 1)) := ⟨_, rfl⟩
    rw [← em2]
    refine zT.aload_n 0 dX1_undo_35 rfl rfl ?_
    refine zT.getI dX1_undo_36 fX1_215 rfl (zPan.k hR.sh) (j := 17) (by decide) rfl (fun z36 => ?_)
    refine zT.iret dX1_undo_39 rfl ?_
    rw [if_neg (by omega), if_neg (by omega), em2, em1]
    have r := hL.undo hB (by omega)
    rw [hu9, ← hu0] at r
    exact ⟨by rw [hu0, zbe_ne (by omega), zup_at], zGr.rf, r, fun b b0 b1 j => by rw [zbe_ne (by omega), zup_ne (by omega)]⟩
  · refine zT.iconst dX1_undo_7 ?_
    refine zT.iret dX1_undo_8 rfl ?_
    rw [if_pos (by omega), if_pos (by omega)]
    exact ⟨rfl, zGr.rf, hL, zOut.rf⟩

