/-! mornings (written by gen/m_morn5.py) -/
theorem C_X1_mornings {G : zG}  {S : zS} {m : zMm} {x : Int} {A : zMm} (hR : rel S m x A) {c f : Int} (hc : zi c) (hf : zi f) : zC G mX1_mornings 5 0 0 [zR x, zI c, zI f] S m (zPo S m x (some (zI (zite (((aK (A 0 1023) (A 2)) 5) = 0 ∨ c < 1 ∨ 100 < c) (-1) (zfd (fun a i => min a (mOu ((aK (A 0 1023) (A 2)) 5) ((aK (A 0 1023) (A 2)) 0).toNat 320 ((f + i).bmod 4294967296) (fun j => (aK (A 0 1023) (A 2)) (8 + 3 * (j / 2) + j % 2)) (fAll (aK (A 0 1023) (A 2)) ((aK (A 0 1023) (A 2)) 5)))) 1000000000 c)))) A) zNX := by
  have hk := hR.vki.1
  have hKi := (hR.ki.2.1).ki hk
  have hKn := hKi.nu
  have hkr := hR.ki.2.1
  have hkf := hkr.2.1
  have hk0 := hk.1
  refine zC.of [zR x, zI c, zI f, zU, zU] (by decide) rfl (zEn1 (zcR _) (zEn1 (zcI _) (zEn1 (zcI _) (zEn0 (by simp))))) rfl ?_
  refine zT.aload_n 0 dX1_mornings_0 rfl rfl ?_
  refine zT.getR dX1_mornings_1 fX1_66 rfl (zPan.k hR.sh) (j := 7) (by decide) rfl ?_
  refine zT.getI dX1_mornings_4 fX1_228 rfl (zKit.k hR.ki.2.1.1) (j := 8) (by decide) rfl (fun z4 => ?_)
  refine zT.if_eq (tgt := 20) dX1_mornings_7 (by decide) (by first | assumption | exact zq_i _ | exact zand_i _ _ | exact zor_i _ _ | exact zxor_i _ _ | exact zN _ | omega) (fun c7 => ?_) (fun c7 => ?_)
  · refine zT.iconst dX1_mornings_20 ?_
    refine zT.iret dX1_mornings_21 rfl ?_
    exact ⟨by first | rw [zite_t (by omega)] | (rw [zite_f (by omega), hv, show i = c by omega]), by first | exact zGr.rf | exact hg, by first | exact hR | exact hr, by first | exact zOut.rf | exact hz⟩
  · refine zT.iload_n 1 dX1_mornings_10 rfl rfl ?_
    refine zT.iconst dX1_mornings_11 ?_
    refine zT.bipush dX1_mornings_12 ?_
    refine zT.callS (M' := mX1_isIn) [zI c, zI 1, zI 100] [] dX1_mornings_14 kX1_231 rfl rfl (C_X1_isIn (by first | assumption | exact zq_i _ | exact zand_i _ _ | exact zor_i _ _ | exact zxor_i _ _ | exact zN _ | omega) (by first | assumption | exact zq_i _ | exact zand_i _ _ | exact zor_i _ _ | exact zxor_i _ _ | exact zN _ | omega) (by first | assumption | exact zq_i _ | exact zand_i _ _ | exact zor_i _ _ | exact zxor_i _ _ | exact zN _ | omega)) (by decide) (k' := 0) (n' := 0) (by omega) (by omega) (by decide) (zdk (v := some (zI (zq (1 ≤ c ∧ c ≤ 100)))) ?_) (fun _ _ _ _ h => h.elim)
    show zT G _ _ _ _ [zI (zq (1 ≤ c ∧ c ≤ 100))] _ _ _ _ _ _
    refine zT.if_neB (tgt := 22) dX1_mornings_17 (by decide) (fun c17 => ?_) (fun c17 => ?_)
    · refine zT.ldcw 1000000000 q1028 (by decide +kernel) dX1_mornings_22 ?_
      refine zT.istore_n 3 dX1_mornings_25 rfl (by decide) (zpre1 rfl (zcI _)) ?_
      show zT G _ _ _ [zR x, zI c, zI f, zI 1000000000, zU] _ _ _ _ _ _ _
      refine zT.iconst dX1_mornings_26 ?_
      refine zT.istore 4 dX1_mornings_27 (by decide) (zpre1 rfl (zcI _)) ?_
      show zT G _ _ _ [zR x, zI c, zI f, zI 1000000000, zI 0] _ _ _ _ _ _ _
      have L29 : ∀ (N : Nat) (mA : zMm) (SA : zS) (v : Int) (i : Int), (zGr S SA) → (rel SA mA x A) → (zOut x m mA) → (0 ≤ i) → (i ≤ c) → (0 ≤ v ∧ v ≤ 1000000000) → (v = zfd (fun a i => min a (mOu ((aK (A 0 1023) (A 2)) 5) ((aK (A 0 1023) (A 2)) 0).toNat 320 ((f + i).bmod 4294967296) (fun j => (aK (A 0 1023) (A 2)) (8 + 3 * (j / 2) + j % 2)) (fAll (aK (A 0 1023) (A 2)) ((aK (A 0 1023) (A 2)) 5)))) 1000000000 i) → ((c - i).toNat) < N → zT G mX1_mornings 5 29 [zR x, zI c, zI f, zI v, zI i] [] SA mA 0 0 (zPo S m x (some (zI (zite (((aK (A 0 1023) (A 2)) 5) = 0 ∨ c < 1 ∨ 100 < c) (-1) (zfd (fun a i => min a (mOu ((aK (A 0 1023) (A 2)) 5) ((aK (A 0 1023) (A 2)) 0).toNat 320 ((f + i).bmod 4294967296) (fun j => (aK (A 0 1023) (A 2)) (8 + 3 * (j / 2) + j % 2)) (fAll (aK (A 0 1023) (A 2)) ((aK (A 0 1023) (A 2)) 5)))) 1000000000 c)))) A) zNX := by
        intro N
        induction N with
        | zero => intro mA SA v i hg hr hz i0 i1 vb hv hN; exact absurd hN (Nat.not_lt_zero _)
        | succ N ih29 =>
          intro mA SA v i hg hr hz i0 i1 vb hv hN
          refine zT.iload 4 dX1_mornings_29 rfl ?_
          refine zT.iload_n 1 dX1_mornings_31 rfl rfl ?_
          refine zT.ic_ge (tgt := 54) dX1_mornings_32 (by decide) (by first | assumption | exact zq_i _ | exact zand_i _ _ | exact zor_i _ _ | exact zxor_i _ _ | exact zN _ | omega) (by first | assumption | exact zq_i _ | exact zand_i _ _ | exact zor_i _ _ | exact zxor_i _ _ | exact zN _ | omega) (fun c32 => ?_) (fun c32 => ?_)
          · refine zT.iload_n 3 dX1_mornings_54 rfl rfl ?_
            refine zT.iret dX1_mornings_55 rfl ?_
            exact ⟨by first | rw [zite_t (by omega)] | (rw [zite_f (by omega), hv, show i = c by omega]), by first | exact zGr.rf | exact hg, by first | exact hR | exact hr, by first | exact zOut.rf | exact hz⟩
          · refine zT.iload_n 3 dX1_mornings_35 rfl rfl ?_
            refine zT.aload_n 0 dX1_mornings_36 rfl rfl ?_
            refine zT.iload_n 2 dX1_mornings_37 rfl rfl ?_
            refine zT.iload 4 dX1_mornings_38 rfl ?_
            refine zT.iadd dX1_mornings_40 ?_
            refine zT.norm (zbm32 _) ?_
            show zT G _ _ _ _ [zI ((f + i).bmod 4294967296), zR x, zI v] _ _ _ _ _ _
            have zb9 : zi ((f + i).bmod 4294967296) := by
                          have h1 := Int.le_bmod (x := f + i) (m := 4294967296) (by omega)
                          have h2 := Int.bmod_lt (x := f + i) (m := 4294967296) (by omega)
                          unfold zi; omega
            have hmb := mOu_b (n := ((aK (A 0 1023) (A 2)) 5)) (q := ((aK (A 0 1023) (A 2)) 0).toNat) 320 (sd := (f + i).bmod 4294967296) (L := (fun j => (aK (A 0 1023) (A 2)) (8 + 3 * (j / 2) + j % 2))) (left := fAll (aK (A 0 1023) (A 2)) ((aK (A 0 1023) (A 2)) 5))
            refine zT.callV (M' := mX1_morningOf) (b := x) [zI ((f + i).bmod 4294967296)] [zI v] dX1_mornings_41 kX1_466 rfl rfl (ci := 0) (r := (RX1, TX1, 42)) rfl (zPan.k hr.sh) (C_X1_morningOf hr zb9) (by decide) (k' := 0) (n' := 0) (by omega) (by omega) (by simp only [List.map, zcI, zcJ, zcR, List.sum_cons, List.sum_nil]; decide) (fun v41 S41_ m41_ h41 => ?_) (fun _ _ _ _ h => h.elim)
            obtain ⟨rfl, g41, hR41, o41⟩ := h41
            show zT G _ _ _ _ [zI (mOu ((aK (A 0 1023) (A 2)) 5) ((aK (A 0 1023) (A 2)) 0).toNat 320 ((f + i).bmod 4294967296) (fun j => (aK (A 0 1023) (A 2)) (8 + 3 * (j / 2) + j % 2)) (fAll (aK (A 0 1023) (A 2)) ((aK (A 0 1023) (A 2)) 5))), zI v] _ _ _ _ _ _
            refine zT.mmin dX1_mornings_44 q1021 (by first | assumption | exact zq_i _ | exact zand_i _ _ | exact zor_i _ _ | exact zxor_i _ _ | exact zN _ | omega) (by first | assumption | exact zq_i _ | exact zand_i _ _ | exact zor_i _ _ | exact zxor_i _ _ | exact zN _ | omega) (by decide) (by decide) ?_
            refine zT.istore_n 3 dX1_mornings_47 rfl (by decide) (zpre1 rfl (zcI _)) ?_
            show zT G _ _ _ [zR x, zI c, zI f, zI (min v (mOu ((aK (A 0 1023) (A 2)) 5) ((aK (A 0 1023) (A 2)) 0).toNat 320 ((f + i).bmod 4294967296) (fun j => (aK (A 0 1023) (A 2)) (8 + 3 * (j / 2) + j % 2)) (fAll (aK (A 0 1023) (A 2)) ((aK (A 0 1023) (A 2)) 5)))), zI i] _ _ _ _ _ _ _
            refine zT.iinc 4 dX1_mornings_48 rfl (by decide) (zpre1 rfl (zcI _)) ?_
            show zT G _ _ _ [zR x, zI c, zI f, zI (min v (mOu ((aK (A 0 1023) (A 2)) 5) ((aK (A 0 1023) (A 2)) 0).toNat 320 ((f + i).bmod 4294967296) (fun j => (aK (A 0 1023) (A 2)) (8 + 3 * (j / 2) + j % 2)) (fAll (aK (A 0 1023) (A 2)) ((aK (A 0 1023) (A 2)) 5)))), zI (i + 1)] _ _ _ _ _ _ _
            refine zT.goto (tgt := 29) dX1_mornings_51 (by decide) ?_
            exact ih29 _ _ _ _ (by exact hg.tr g41) (by exact hR41) (by exact hz.tr o41) (by first | assumption | exact zq_i _ | exact zand_i _ _ | exact zor_i _ _ | exact zxor_i _ _ | exact zN _ | omega) (by first | assumption | exact zq_i _ | exact zand_i _ _ | exact zor_i _ _ | exact zxor_i _ _ | exact zN _ | omega) (by omega) (by rw [zfd_s i0, ← hv]) (by omega)
      exact L29 _ _ _ _ _ (by exact zGr.rf) (by exact hR) (by exact zOut.rf) (by first | assumption | exact zq_i _ | exact zand_i _ _ | exact zor_i _ _ | exact zxor_i _ _ | exact zN _ | omega) (by first | assumption | exact zq_i _ | exact zand_i _ _ | exact zor_i _ _ | exact zxor_i _ _ | exact zN _ | omega) (by omega) (by rfl) (Nat.lt_succ_self _)
    · refine zT.iconst dX1_mornings_20 ?_
      refine zT.iret dX1_mornings_21 rfl ?_
      exact ⟨by first | rw [zite_t (by omega)] | (rw [zite_f (by omega), hv, show i = c by omega]), by first | exact zGr.rf | exact hg, by first | exact hR | exact hr, by first | exact zOut.rf | exact hz⟩

