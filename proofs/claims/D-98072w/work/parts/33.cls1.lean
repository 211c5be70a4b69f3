/-! PanSlices: small methods that only read (written by gen/m_cls1.py) -/

theorem C_X1_must {G : zG} {S : zS} {m : zMm} {b : Int} (hb : zi b) (h0 : b ≠ 0) : zC G mX1_must 0 0 0 [zI b] S m (zDet none S m) zNX := by
  refine zC.of [zI b] (by decide) rfl (zEn1 (zcI _) (zEn0 (by simp))) rfl ?_
  refine zT.iload_n 0 dX1_must_0 rfl rfl ?_
  refine zT.if_ne (tgt := 12) dX1_must_1 (by decide) hb (fun c => ?_) (fun c => absurd c (by omega))
  refine zT.vret dX1_must_12 rfl ?_
  exact ⟨rfl, rfl, rfl⟩
theorem C_X1_must_x {G : zG} {S : zS} {m : zMm} {b : Int} (h0 : b = 0) : zC G mX1_must 8 1 6 [zI b] S m (fun _ _ _ => False) (fun E q S2 m2 => E = "java/util/NoSuchElementException" ∧ zGr S S2 ∧ m2 = m) := by
  subst h0
  refine zC.of [zI 0] (by decide) rfl (zEn1 (zcI _) (zEn0 (by simp))) rfl ?_
  refine zT.iload_n 0 dX1_must_0 rfl rfl ?_
  refine zT.if_ne (tgt := 12) dX1_must_1 (by decide) (by omega) (fun c => absurd rfl c) (fun c => ?_)
  exact zT.throw0 rfl rfl rfl dX1_must_4 dX1_must_7 dX1_must_8 dX1_must_11 (by omega) (by omega) (by omega) (fun q y hy => ⟨rfl, zsx.gr hy, rfl⟩)
theorem C_X1_isSlice {G : zG}  {S : zS} {m : zMm} {x : Int} {A : zMm} (hR : rel S m x A) {s : Int} (hs : zi s) : zC G mX1_isSlice 1 0 0 [zR x, zI s] S m (zDet (some (zI (zq (0 ≤ s ∧ s < (aK (A 0 1023) (A 2)) 5)))) S m) zNX := by
  have hk := hR.vki.1
  have hKi := (hR.ki.2.1).ki hk
  have hKn := hKi.nu
  have hkr := hR.ki.2.1
  have hkf := hkr.2.1
  have hk0 := hk.1
  refine zC.of [zR x, zI s] (by decide) rfl (zEn1 (zcR _) (zEn1 (zcI _) (zEn0 (by simp)))) rfl ?_
  refine zT.iload_n 1 dX1_isSlice_0 rfl rfl ?_
  refine zT.iconst dX1_isSlice_1 ?_
  refine zT.aload_n 0 dX1_isSlice_2 rfl rfl ?_
  refine zT.getR dX1_isSlice_3 fX1_66 rfl (zPan.k hR.sh) (j := 7) (by decide) rfl ?_
  refine zT.getI dX1_isSlice_6 fX1_228 rfl (zKit.k hR.ki.2.1.1) (j := 8) (by decide) rfl (fun z6 => ?_)
  refine zT.iconst dX1_isSlice_9 ?_
  refine zT.isub dX1_isSlice_10 ?_
  refine zT.callS (M' := mX1_isIn) [zI s, zI 0, zI ((m (m x 7) 208) - 1)] [] dX1_isSlice_11 kX1_231 rfl rfl (C_X1_isIn (by first | assumption | exact zq_i _ | exact zand_i _ _ | exact zor_i _ _ | exact zxor_i _ _ | exact zN _ | omega) (by first | assumption | exact zq_i _ | exact zand_i _ _ | exact zor_i _ _ | exact zxor_i _ _ | exact zN _ | omega) (by first | assumption | exact zq_i _ | exact zand_i _ _ | exact zor_i _ _ | exact zxor_i _ _ | exact zN _ | omega)) (by decide) (k' := 0) (n' := 0) (by omega) (by omega) (by decide) (zdk (v := some (zI (zq (0 ≤ s ∧ s ≤ ((m (m x 7) 208) - 1))))) ?_) (fun _ _ _ _ h => h.elim)
  show zT G _ _ _ _ [zI (zq (0 ≤ s ∧ s ≤ ((m (m x 7) 208) - 1)))] _ _ _ _ _ _
  refine zT.zret dX1_isSlice_14 rfl (zq_01 _) ?_
  exact ⟨by rw [zq_c (show (0 ≤ s ∧ s ≤ m (m x 7) 208 - 1) ↔ (0 ≤ s ∧ s < (aK (A 0 1023) (A 2)) 5) by omega)], rfl, rfl⟩

theorem C_X1_isGo {G : zG}  {S : zS} {m : zMm} {x : Int} {A : zMm} (hR : rel S m x A) {k : Int} (hs : zi k) : zC G mX1_isGo 1 0 0 [zR x, zI k] S m (zDet (some (zI (zq (0 ≤ k ∧ k < A 2 58)))) S m) zNX := by
  have hpl := hR.pl
  have hpv := hR.vpl
  have hPl := hpl.pl hpv
  have hPl0 := hPl.1
  have hPl1 := hPl.2.1
  have hgn := hpl.2.1
  refine zC.of [zR x, zI k] (by decide) rfl (zEn1 (zcR _) (zEn1 (zcI _) (zEn0 (by simp)))) rfl ?_
  refine zT.iload_n 1 dX1_isGo_0 rfl rfl ?_
  refine zT.iconst dX1_isGo_1 ?_
  refine zT.aload_n 0 dX1_isGo_2 rfl rfl ?_
  refine zT.getF dX1_isGo_3 fX1_73 rfl (zPan.k hR.sh) (j := 8) (by decide) rfl (zPan.f8 hR.sh) ?_
  refine zT.getI dX1_isGo_6 fX1_213 rfl (zPlan.k (zPan.o8 hR.sh)) (j := 5) (by decide) rfl (fun z6 => ?_)
  refine zT.iconst dX1_isGo_9 ?_
  refine zT.isub dX1_isGo_10 ?_
  refine zT.callS (M' := mX1_isIn) [zI k, zI 0, zI ((m (x + 14) 305) - 1)] [] dX1_isGo_11 kX1_231 rfl rfl (C_X1_isIn (by first | assumption | exact zq_i _ | exact zand_i _ _ | exact zor_i _ _ | exact zxor_i _ _ | exact zN _ | omega) (by first | assumption | exact zq_i _ | exact zand_i _ _ | exact zor_i _ _ | exact zxor_i _ _ | exact zN _ | omega) (by first | assumption | exact zq_i _ | exact zand_i _ _ | exact zor_i _ _ | exact zxor_i _ _ | exact zN _ | omega)) (by decide) (k' := 0) (n' := 0) (by omega) (by omega) (by decide) (zdk (v := some (zI (zq (0 ≤ k ∧ k ≤ ((m (x + 14) 305) - 1))))) ?_) (fun _ _ _ _ h => h.elim)
  show zT G _ _ _ _ [zI (zq (0 ≤ k ∧ k ≤ ((m (x + 14) 305) - 1)))] _ _ _ _ _ _
  refine zT.zret dX1_isGo_14 rfl (zq_01 _) ?_
  exact ⟨by rw [zq_c (show (0 ≤ k ∧ k ≤ m (x + 14) 305 - 1) ↔ (0 ≤ k ∧ k < A 2 58) by omega)], rfl, rfl⟩

theorem C_X1_fault {G : zG}  {S : zS} {m : zMm} {x : Int} {A : zMm} (hR : rel S m x A)  : zC G mX1_fault 0 0 0 [zR x] S m (zDet (some (zI (A 0 1010))) S m) zNX := by
  refine zC.of [zR x] (by decide) rfl (zEn1 (zcR _) (zEn0 (by simp))) rfl ?_
  refine zT.aload_n 0 dX1_fault_0 rfl rfl ?_
  refine zT.getI dX1_fault_1 fX1_206 rfl (zPan.k hR.sh) (j := 12) (by decide) rfl (fun z1 => ?_)
  refine zT.iret dX1_fault_4 rfl ?_
  exact ⟨by rw [hR.fa], rfl, rfl⟩

theorem C_X1_why {G : zG}  {S : zS} {m : zMm} {x : Int} {A : zMm} (hR : rel S m x A)  : zC G mX1_why 0 0 0 [zR x] S m (zDet (some (zI (A 0 1026))) S m) zNX := by
  refine zC.of [zR x] (by decide) rfl (zEn1 (zcR _) (zEn0 (by simp))) rfl ?_
  refine zT.aload_n 0 dX1_why_0 rfl rfl ?_
  refine zT.getI dX1_why_1 fX1_96 rfl (zPan.k hR.sh) (j := 13) (by decide) rfl (fun z1 => ?_)
  refine zT.iret dX1_why_4 rfl ?_
  exact ⟨by rw [hR.wy], rfl, rfl⟩

theorem C_X1_slice {G : zG}  {S : zS} {m : zMm} {x : Int} {A : zMm} (hR : rel S m x A) {s c : Int} (hs : zi s) (hc : zi c) (hP : (0 ≤ s ∧ s < (aK (A 0 1023) (A 2)) 5) ∧ 0 ≤ c ∧ c ≤ 2) : zC G mX1_slice 9 0 0 [zR x, zI s, zI c] S m (zDet (some (zI ((aK (A 0 1023) (A 2)) (8 + 3 * s + c)))) S m) zNX := by
  have hk := hR.vki.1
  have hKi := (hR.ki.2.1).ki hk
  have hKn := hKi.nu
  have hkr := hR.ki.2.1
  have hkf := hkr.2.1
  have hk0 := hk.1
  refine zC.of [zR x, zI s, zI c] (by decide) rfl (zEn1 (zcR _) (zEn1 (zcI _) (zEn1 (zcI _) (zEn0 (by simp))))) rfl ?_
  refine zT.aload_n 0 dX1_slice_0 rfl rfl ?_
  refine zT.iload_n 1 dX1_slice_1 rfl rfl ?_
  refine zT.callV (M' := mX1_isSlice) (b := x) [zI s] [] dX1_slice_2 kX1_235 rfl rfl (ci := 0) (r := (RX1, TX1, 42)) rfl (zPan.k hR.sh) (C_X1_isSlice hR (by first | assumption | exact zq_i _ | exact zand_i _ _ | exact zor_i _ _ | exact zxor_i _ _ | exact zN _ | omega)) (by decide) (k' := 0) (n' := 0) (by omega) (by omega) (by decide) (zdk (v := some (zI (zq (0 ≤ s ∧ s < (aK (A 0 1023) (A 2)) 5)))) ?_) (fun _ _ _ _ h => h.elim)
  show zT G _ _ _ _ [zI (zq (0 ≤ s ∧ s < (aK (A 0 1023) (A 2)) 5))] _ _ _ _ _ _
  refine zT.if_eqB (tgt := 21) dX1_slice_5 (by decide) (fun c5 => ?_) (fun c5 => ?_)
  · refine zT.iconst dX1_slice_21 ?_
    exfalso; omega
  · refine zT.iload_n 2 dX1_slice_8 rfl rfl ?_
    refine zT.iconst dX1_slice_9 ?_
    refine zT.iconst dX1_slice_10 ?_
    refine zT.callS (M' := mX1_isIn) [zI c, zI 0, zI 2] [] dX1_slice_11 kX1_231 rfl rfl (C_X1_isIn (by first | assumption | exact zq_i _ | exact zand_i _ _ | exact zor_i _ _ | exact zxor_i _ _ | exact zN _ | omega) (by first | assumption | exact zq_i _ | exact zand_i _ _ | exact zor_i _ _ | exact zxor_i _ _ | exact zN _ | omega) (by first | assumption | exact zq_i _ | exact zand_i _ _ | exact zor_i _ _ | exact zxor_i _ _ | exact zN _ | omega)) (by decide) (k' := 0) (n' := 0) (by omega) (by omega) (by decide) (zdk (v := some (zI (zq (0 ≤ c ∧ c ≤ 2)))) ?_) (fun _ _ _ _ h => h.elim)
    show zT G _ _ _ _ [zI (zq (0 ≤ c ∧ c ≤ 2))] _ _ _ _ _ _
    refine zT.if_eqB (tgt := 21) dX1_slice_14 (by decide) (fun c14 => ?_) (fun c14 => ?_)
    · refine zT.iconst dX1_slice_21 ?_
      exfalso; omega
    · refine zT.iconst dX1_slice_17 ?_
      refine zT.goto (tgt := 22) dX1_slice_18 (by decide) ?_
      refine zT.callS (M' := mX1_must) [zI 1] [] dX1_slice_22 kX1_239 rfl rfl (C_X1_must (by omega) (by omega)) (by decide) (k' := 0) (n' := 0) (by omega) (by omega) (by decide) (zdk (v := none) ?_) (fun _ _ _ _ h => h.elim)
      show zT G _ _ _ _ [] _ _ _ _ _ _
      refine zT.iload_n 2 dX1_slice_25 rfl rfl ?_
      refine zT.iconst dX1_slice_26 ?_
      refine zT.ic_ge (tgt := 46) dX1_slice_27 (by decide) (by first | assumption | exact zq_i _ | exact zand_i _ _ | exact zor_i _ _ | exact zxor_i _ _ | exact zN _ | omega) (by first | assumption | exact zq_i _ | exact zand_i _ _ | exact zor_i _ _ | exact zxor_i _ _ | exact zN _ | omega) (fun c27 => ?_) (fun c27 => ?_)
      · refine zT.aload_n 0 dX1_slice_46 rfl rfl ?_
        refine zT.getR dX1_slice_47 fX1_66 rfl (zPan.k hR.sh) (j := 7) (by decide) rfl ?_
        refine zT.getF dX1_slice_50 fX1_246 rfl (zKit.k hR.ki.2.1.1) (j := 7) (by decide) rfl (zKit.f207 hR.ki.2.1.1) ?_
        refine zT.iload_n 1 dX1_slice_53 rfl rfl ?_
        refine zT.zald dX1_slice_54 (zKit.a207 hR.ki.2.1.1) (by first | assumption | exact zq_i _ | exact zand_i _ _ | exact zor_i _ _ | exact zxor_i _ _ | exact zN _ | omega) (by rw [(zKit.n207 hR.ki.2.1.1)]; first | assumption | exact zq_i _ | exact zand_i _ _ | exact zor_i _ _ | exact zxor_i _ _ | exact zN _ | omega) (fun z54 => ?_)
        refine zT.if_eq (tgt := 62) dX1_slice_55 (by decide) (by first | assumption | exact zq_i _ | exact zand_i _ _ | exact zor_i _ _ | exact zxor_i _ _ | exact zN _ | omega) (fun c55 => ?_) (fun c55 => ?_)
        · refine zT.iconst dX1_slice_62 ?_
          refine zT.iret dX1_slice_63 rfl ?_
          have hsl := hkr.2.2.1 s (by omega) (by omega)
          refine ⟨?_, rfl, rfl⟩
          first
            | (have ec : c = 2 := by omega
               subst ec
               rw [← hsl.2.2]
               congr 2
               omega)
            | (have ec : c = 0 ∨ c = 1 := by omega
               rcases ec with rfl | rfl
               · rw [← hsl.1, Int.add_zero]
               · rw [← hsl.2.1])
        · refine zT.iconst dX1_slice_58 ?_
          refine zT.goto (tgt := 63) dX1_slice_59 (by decide) ?_
          refine zT.iret dX1_slice_63 rfl ?_
          have hsl := hkr.2.2.1 s (by omega) (by omega)
          refine ⟨?_, rfl, rfl⟩
          first
            | (have ec : c = 2 := by omega
               subst ec
               rw [← hsl.2.2]
               congr 2
               omega)
            | (have ec : c = 0 ∨ c = 1 := by omega
               rcases ec with rfl | rfl
               · rw [← hsl.1, Int.add_zero]
               · rw [← hsl.2.1])
      · refine zT.aload_n 0 dX1_slice_30 rfl rfl ?_
        refine zT.getR dX1_slice_31 fX1_66 rfl (zPan.k hR.sh) (j := 7) (by decide) rfl ?_
        refine zT.getF dX1_slice_34 fX1_243 rfl (zKit.k hR.ki.2.1.1) (j := 2) (by decide) rfl (zKit.f202 hR.ki.2.1.1) ?_
        refine zT.iconst dX1_slice_37 ?_
        refine zT.iload_n 1 dX1_slice_38 rfl rfl ?_
        refine zT.imul dX1_slice_39 ?_
        refine zT.iload_n 2 dX1_slice_40 rfl rfl ?_
        refine zT.iadd dX1_slice_41 ?_
        refine zT.iald dX1_slice_42 (zKit.a202 hR.ki.2.1.1) (by first | assumption | exact zq_i _ | exact zand_i _ _ | exact zor_i _ _ | exact zxor_i _ _ | exact zN _ | omega) (by rw [(zKit.n202 hR.ki.2.1.1)]; first | assumption | exact zq_i _ | exact zand_i _ _ | exact zor_i _ _ | exact zxor_i _ _ | exact zN _ | omega) (fun z42 => ?_)
        refine zT.goto (tgt := 63) dX1_slice_43 (by decide) ?_
        refine zT.iret dX1_slice_63 rfl ?_
        have hsl := hkr.2.2.1 s (by omega) (by omega)
        refine ⟨?_, rfl, rfl⟩
        first
          | (have ec : c = 2 := by omega
             subst ec
             rw [← hsl.2.2]
             congr 2
             omega)
          | (have ec : c = 0 ∨ c = 1 := by omega
             rcases ec with rfl | rfl
             · rw [← hsl.1, Int.add_zero]
             · rw [← hsl.2.1])

theorem C_X1_slice_x {G : zG}  {S : zS} {m : zMm} {x : Int} {A : zMm} (hR : rel S m x A) {s c : Int} (hs : zi s) (hc : zi c) (hP : ¬ ((0 ≤ s ∧ s < (aK (A 0 1023) (A 2)) 5) ∧ 0 ≤ c ∧ c ≤ 2)) : zC G mX1_slice 9 1 6 [zR x, zI s, zI c] S m (fun _ _ _ => False) (fun E q S2 m2 => E = "java/util/NoSuchElementException" ∧ zGr S S2 ∧ m2 = m) := by
  have hk := hR.vki.1
  have hKi := (hR.ki.2.1).ki hk
  have hKn := hKi.nu
  have hkr := hR.ki.2.1
  have hkf := hkr.2.1
  have hk0 := hk.1
  refine zC.of [zR x, zI s, zI c] (by decide) rfl (zEn1 (zcR _) (zEn1 (zcI _) (zEn1 (zcI _) (zEn0 (by simp))))) rfl ?_
  refine zT.aload_n 0 dX1_slice_0 rfl rfl ?_
  refine zT.iload_n 1 dX1_slice_1 rfl rfl ?_
  refine zT.callV (M' := mX1_isSlice) (b := x) [zI s] [] dX1_slice_2 kX1_235 rfl rfl (ci := 0) (r := (RX1, TX1, 42)) rfl (zPan.k hR.sh) (C_X1_isSlice hR (by first | assumption | exact zq_i _ | exact zand_i _ _ | exact zor_i _ _ | exact zxor_i _ _ | exact zN _ | omega)) (by decide) (k' := 1) (n' := 6) (by omega) (by omega) (by decide) (zdk (v := some (zI (zq (0 ≤ s ∧ s < (aK (A 0 1023) (A 2)) 5)))) ?_) (fun _ _ _ _ h => h.elim)
  show zT G _ _ _ _ [zI (zq (0 ≤ s ∧ s < (aK (A 0 1023) (A 2)) 5))] _ _ _ _ _ _
  refine zT.if_eqB (tgt := 21) dX1_slice_5 (by decide) (fun c5 => ?_) (fun c5 => ?_)
  · refine zT.iconst dX1_slice_21 ?_
    refine zT.callS (M' := mX1_must) [zI 0] [] dX1_slice_22 kX1_239 rfl rfl (C_X1_must_x rfl) (by decide) (k' := 0) (n' := 0) (by omega) (by omega) (by decide) (fun _ _ _ h => h.elim) (fun E22 q22 S22x m22x h22x => ?_)
    obtain ⟨rfl, g22, rfl⟩ := h22x
    refine zTX.out rfl ?_
    exact ⟨rfl, g22, rfl⟩
  · refine zT.iload_n 2 dX1_slice_8 rfl rfl ?_
    refine zT.iconst dX1_slice_9 ?_
    refine zT.iconst dX1_slice_10 ?_
    refine zT.callS (M' := mX1_isIn) [zI c, zI 0, zI 2] [] dX1_slice_11 kX1_231 rfl rfl (C_X1_isIn (by first | assumption | exact zq_i _ | exact zand_i _ _ | exact zor_i _ _ | exact zxor_i _ _ | exact zN _ | omega) (by first | assumption | exact zq_i _ | exact zand_i _ _ | exact zor_i _ _ | exact zxor_i _ _ | exact zN _ | omega) (by first | assumption | exact zq_i _ | exact zand_i _ _ | exact zor_i _ _ | exact zxor_i _ _ | exact zN _ | omega)) (by decide) (k' := 1) (n' := 6) (by omega) (by omega) (by decide) (zdk (v := some (zI (zq (0 ≤ c ∧ c ≤ 2)))) ?_) (fun _ _ _ _ h => h.elim)
    show zT G _ _ _ _ [zI (zq (0 ≤ c ∧ c ≤ 2))] _ _ _ _ _ _
    refine zT.if_eqB (tgt := 21) dX1_slice_14 (by decide) (fun c14 => ?_) (fun c14 => ?_)
    · refine zT.iconst dX1_slice_21 ?_
      refine zT.callS (M' := mX1_must) [zI 0] [] dX1_slice_22 kX1_239 rfl rfl (C_X1_must_x rfl) (by decide) (k' := 0) (n' := 0) (by omega) (by omega) (by decide) (fun _ _ _ h => h.elim) (fun E22 q22 S22x m22x h22x => ?_)
      obtain ⟨rfl, g22, rfl⟩ := h22x
      refine zTX.out rfl ?_
      exact ⟨rfl, g22, rfl⟩
    · refine zT.iconst dX1_slice_17 ?_
      refine zT.goto (tgt := 22) dX1_slice_18 (by decide) ?_
      exfalso; omega

theorem C_X1_guest {G : zG}  {S : zS} {m : zMm} {x : Int} {A : zMm} (hR : rel S m x A) {s c : Int} (hs : zi s) (hc : zi c) (hP : (0 ≤ s ∧ s < (aK (A 0 1023) (A 2)) 6) ∧ 0 ≤ c ∧ c ≤ 1) : zC G mX1_guest 9 0 0 [zR x, zI s, zI c] S m (zDet (some (zI ((aK (A 0 1023) (A 2)) (32 + 2 * s + c)))) S m) zNX := by
  have hk := hR.vki.1
  have hKi := (hR.ki.2.1).ki hk
  have hKn := hKi.nu
  have hkr := hR.ki.2.1
  have hkf := hkr.2.1
  have hk0 := hk.1
  refine zC.of [zR x, zI s, zI c] (by decide) rfl (zEn1 (zcR _) (zEn1 (zcI _) (zEn1 (zcI _) (zEn0 (by simp))))) rfl ?_
  refine zT.iload_n 1 dX1_guest_0 rfl rfl ?_
  refine zT.iconst dX1_guest_1 ?_
  refine zT.aload_n 0 dX1_guest_2 rfl rfl ?_
  refine zT.getR dX1_guest_3 fX1_66 rfl (zPan.k hR.sh) (j := 7) (by decide) rfl ?_
  refine zT.getI dX1_guest_6 fX1_249 rfl (zKit.k hR.ki.2.1.1) (j := 9) (by decide) rfl (fun z6 => ?_)
  refine zT.iconst dX1_guest_9 ?_
  refine zT.isub dX1_guest_10 ?_
  refine zT.callS (M' := mX1_isIn) [zI s, zI 0, zI ((m (m x 7) 209) - 1)] [] dX1_guest_11 kX1_231 rfl rfl (C_X1_isIn (by first | assumption | exact zq_i _ | exact zand_i _ _ | exact zor_i _ _ | exact zxor_i _ _ | exact zN _ | omega) (by first | assumption | exact zq_i _ | exact zand_i _ _ | exact zor_i _ _ | exact zxor_i _ _ | exact zN _ | omega) (by first | assumption | exact zq_i _ | exact zand_i _ _ | exact zor_i _ _ | exact zxor_i _ _ | exact zN _ | omega)) (by decide) (k' := 0) (n' := 0) (by omega) (by omega) (by decide) (zdk (v := some (zI (zq (0 ≤ s ∧ s ≤ ((m (m x 7) 209) - 1))))) ?_) (fun _ _ _ _ h => h.elim)
  show zT G _ _ _ _ [zI (zq (0 ≤ s ∧ s ≤ ((m (m x 7) 209) - 1)))] _ _ _ _ _ _
  refine zT.if_eqB (tgt := 30) dX1_guest_14 (by decide) (fun c14 => ?_) (fun c14 => ?_)
  · refine zT.iconst dX1_guest_30 ?_
    exfalso; omega
  · refine zT.iload_n 2 dX1_guest_17 rfl rfl ?_
    refine zT.iconst dX1_guest_18 ?_
    refine zT.iconst dX1_guest_19 ?_
    refine zT.callS (M' := mX1_isIn) [zI c, zI 0, zI 1] [] dX1_guest_20 kX1_231 rfl rfl (C_X1_isIn (by first | assumption | exact zq_i _ | exact zand_i _ _ | exact zor_i _ _ | exact zxor_i _ _ | exact zN _ | omega) (by first | assumption | exact zq_i _ | exact zand_i _ _ | exact zor_i _ _ | exact zxor_i _ _ | exact zN _ | omega) (by first | assumption | exact zq_i _ | exact zand_i _ _ | exact zor_i _ _ | exact zxor_i _ _ | exact zN _ | omega)) (by decide) (k' := 0) (n' := 0) (by omega) (by omega) (by decide) (zdk (v := some (zI (zq (0 ≤ c ∧ c ≤ 1)))) ?_) (fun _ _ _ _ h => h.elim)
    show zT G _ _ _ _ [zI (zq (0 ≤ c ∧ c ≤ 1))] _ _ _ _ _ _
    refine zT.if_eqB (tgt := 30) dX1_guest_23 (by decide) (fun c23 => ?_) (fun c23 => ?_)
    · refine zT.iconst dX1_guest_30 ?_
      exfalso; omega
    · refine zT.iconst dX1_guest_26 ?_
      refine zT.goto (tgt := 31) dX1_guest_27 (by decide) ?_
      refine zT.callS (M' := mX1_must) [zI 1] [] dX1_guest_31 kX1_239 rfl rfl (C_X1_must (by omega) (by omega)) (by decide) (k' := 0) (n' := 0) (by omega) (by omega) (by decide) (zdk (v := none) ?_) (fun _ _ _ _ h => h.elim)
      show zT G _ _ _ _ [] _ _ _ _ _ _
      refine zT.iload_n 2 dX1_guest_34 rfl rfl ?_
      refine zT.if_ne (tgt := 50) dX1_guest_35 (by decide) (by first | assumption | exact zq_i _ | exact zand_i _ _ | exact zor_i _ _ | exact zxor_i _ _ | exact zN _ | omega) (fun c35 => ?_) (fun c35 => ?_)
      · refine zT.aload_n 0 dX1_guest_50 rfl rfl ?_
        refine zT.getR dX1_guest_51 fX1_66 rfl (zPan.k hR.sh) (j := 7) (by decide) rfl ?_
        refine zT.getF dX1_guest_54 fX1_255 rfl (zKit.k hR.ki.2.1.1) (j := 4) (by decide) rfl (zKit.f204 hR.ki.2.1.1) ?_
        refine zT.iload_n 1 dX1_guest_57 rfl rfl ?_
        refine zT.iald dX1_guest_58 (zKit.a204 hR.ki.2.1.1) (by first | assumption | exact zq_i _ | exact zand_i _ _ | exact zor_i _ _ | exact zxor_i _ _ | exact zN _ | omega) (by rw [(zKit.n204 hR.ki.2.1.1)]; first | assumption | exact zq_i _ | exact zand_i _ _ | exact zor_i _ _ | exact zxor_i _ _ | exact zN _ | omega) (fun z58 => ?_)
        refine zT.iret dX1_guest_59 rfl ?_
        have hsl := hkr.2.2.2.1 s (by omega) (by omega)
        refine ⟨?_, rfl, rfl⟩
        first
          | (have ec : c = 0 := by omega
             subst ec
             rw [← hsl.1])
          | (have ec : c = 1 := by omega
             subst ec
             rw [← hsl.2])
      · refine zT.aload_n 0 dX1_guest_38 rfl rfl ?_
        refine zT.getR dX1_guest_39 fX1_66 rfl (zPan.k hR.sh) (j := 7) (by decide) rfl ?_
        refine zT.getF dX1_guest_42 fX1_252 rfl (zKit.k hR.ki.2.1.1) (j := 3) (by decide) rfl (zKit.f203 hR.ki.2.1.1) ?_
        refine zT.iload_n 1 dX1_guest_45 rfl rfl ?_
        refine zT.iald dX1_guest_46 (zKit.a203 hR.ki.2.1.1) (by first | assumption | exact zq_i _ | exact zand_i _ _ | exact zor_i _ _ | exact zxor_i _ _ | exact zN _ | omega) (by rw [(zKit.n203 hR.ki.2.1.1)]; first | assumption | exact zq_i _ | exact zand_i _ _ | exact zor_i _ _ | exact zxor_i _ _ | exact zN _ | omega) (fun z46 => ?_)
        refine zT.goto (tgt := 59) dX1_guest_47 (by decide) ?_
        refine zT.iret dX1_guest_59 rfl ?_
        have hsl := hkr.2.2.2.1 s (by omega) (by omega)
        refine ⟨?_, rfl, rfl⟩
        first
          | (have ec : c = 0 := by omega
             subst ec
             rw [← hsl.1])
          | (have ec : c = 1 := by omega
             subst ec
             rw [← hsl.2])

theorem C_X1_guest_x {G : zG}  {S : zS} {m : zMm} {x : Int} {A : zMm} (hR : rel S m x A) {s c : Int} (hs : zi s) (hc : zi c) (hP : ¬ ((0 ≤ s ∧ s < (aK (A 0 1023) (A 2)) 6) ∧ 0 ≤ c ∧ c ≤ 1)) : zC G mX1_guest 9 1 6 [zR x, zI s, zI c] S m (fun _ _ _ => False) (fun E q S2 m2 => E = "java/util/NoSuchElementException" ∧ zGr S S2 ∧ m2 = m) := by
  have hk := hR.vki.1
  have hKi := (hR.ki.2.1).ki hk
  have hKn := hKi.nu
  have hkr := hR.ki.2.1
  have hkf := hkr.2.1
  have hk0 := hk.1
  refine zC.of [zR x, zI s, zI c] (by decide) rfl (zEn1 (zcR _) (zEn1 (zcI _) (zEn1 (zcI _) (zEn0 (by simp))))) rfl ?_
  refine zT.iload_n 1 dX1_guest_0 rfl rfl ?_
  refine zT.iconst dX1_guest_1 ?_
  refine zT.aload_n 0 dX1_guest_2 rfl rfl ?_
  refine zT.getR dX1_guest_3 fX1_66 rfl (zPan.k hR.sh) (j := 7) (by decide) rfl ?_
  refine zT.getI dX1_guest_6 fX1_249 rfl (zKit.k hR.ki.2.1.1) (j := 9) (by decide) rfl (fun z6 => ?_)
  refine zT.iconst dX1_guest_9 ?_
  refine zT.isub dX1_guest_10 ?_
  refine zT.callS (M' := mX1_isIn) [zI s, zI 0, zI ((m (m x 7) 209) - 1)] [] dX1_guest_11 kX1_231 rfl rfl (C_X1_isIn (by first | assumption | exact zq_i _ | exact zand_i _ _ | exact zor_i _ _ | exact zxor_i _ _ | exact zN _ | omega) (by first | assumption | exact zq_i _ | exact zand_i _ _ | exact zor_i _ _ | exact zxor_i _ _ | exact zN _ | omega) (by first | assumption | exact zq_i _ | exact zand_i _ _ | exact zor_i _ _ | exact zxor_i _ _ | exact zN _ | omega)) (by decide) (k' := 1) (n' := 6) (by omega) (by omega) (by decide) (zdk (v := some (zI (zq (0 ≤ s ∧ s ≤ ((m (m x 7) 209) - 1))))) ?_) (fun _ _ _ _ h => h.elim)
  show zT G _ _ _ _ [zI (zq (0 ≤ s ∧ s ≤ ((m (m x 7) 209) - 1)))] _ _ _ _ _ _
  refine zT.if_eqB (tgt := 30) dX1_guest_14 (by decide) (fun c14 => ?_) (fun c14 => ?_)
  · refine zT.iconst dX1_guest_30 ?_
    refine zT.callS (M' := mX1_must) [zI 0] [] dX1_guest_31 kX1_239 rfl rfl (C_X1_must_x rfl) (by decide) (k' := 0) (n' := 0) (by omega) (by omega) (by decide) (fun _ _ _ h => h.elim) (fun E31 q31 S31x m31x h31x => ?_)
    obtain ⟨rfl, g31, rfl⟩ := h31x
    refine zTX.out rfl ?_
    exact ⟨rfl, g31, rfl⟩
  · refine zT.iload_n 2 dX1_guest_17 rfl rfl ?_
    refine zT.iconst dX1_guest_18 ?_
    refine zT.iconst dX1_guest_19 ?_
    refine zT.callS (M' := mX1_isIn) [zI c, zI 0, zI 1] [] dX1_guest_20 kX1_231 rfl rfl (C_X1_isIn (by first | assumption | exact zq_i _ | exact zand_i _ _ | exact zor_i _ _ | exact zxor_i _ _ | exact zN _ | omega) (by first | assumption | exact zq_i _ | exact zand_i _ _ | exact zor_i _ _ | exact zxor_i _ _ | exact zN _ | omega) (by first | assumption | exact zq_i _ | exact zand_i _ _ | exact zor_i _ _ | exact zxor_i _ _ | exact zN _ | omega)) (by decide) (k' := 1) (n' := 6) (by omega) (by omega) (by decide) (zdk (v := some (zI (zq (0 ≤ c ∧ c ≤ 1)))) ?_) (fun _ _ _ _ h => h.elim)
    show zT G _ _ _ _ [zI (zq (0 ≤ c ∧ c ≤ 1))] _ _ _ _ _ _
    refine zT.if_eqB (tgt := 30) dX1_guest_23 (by decide) (fun c23 => ?_) (fun c23 => ?_)
    · refine zT.iconst dX1_guest_30 ?_
      refine zT.callS (M' := mX1_must) [zI 0] [] dX1_guest_31 kX1_239 rfl rfl (C_X1_must_x rfl) (by decide) (k' := 0) (n' := 0) (by omega) (by omega) (by decide) (fun _ _ _ h => h.elim) (fun E31 q31 S31x m31x h31x => ?_)
      obtain ⟨rfl, g31, rfl⟩ := h31x
      refine zTX.out rfl ?_
      exact ⟨rfl, g31, rfl⟩
    · refine zT.iconst dX1_guest_26 ?_
      refine zT.goto (tgt := 31) dX1_guest_27 (by decide) ?_
      exfalso; omega

theorem C_X1_sort {G : zG}  {S : zS} {m : zMm} {x : Int} {A : zMm} (hR : rel S m x A) {s c : Int} (hs : zi s) (hc : zi c) (hP : (0 ≤ s ∧ s < (aK (A 0 1023) (A 2)) 7) ∧ 0 ≤ c ∧ c ≤ 1) : zC G mX1_sort 9 0 0 [zR x, zI s, zI c] S m (zDet (some (zI ((aK (A 0 1023) (A 2)) (48 + 2 * s + c)))) S m) zNX := by
  have hk := hR.vki.1
  have hKi := (hR.ki.2.1).ki hk
  have hKn := hKi.nu
  have hkr := hR.ki.2.1
  have hkf := hkr.2.1
  have hk0 := hk.1
  refine zC.of [zR x, zI s, zI c] (by decide) rfl (zEn1 (zcR _) (zEn1 (zcI _) (zEn1 (zcI _) (zEn0 (by simp))))) rfl ?_
  refine zT.iload_n 1 dX1_sort_0 rfl rfl ?_
  refine zT.iconst dX1_sort_1 ?_
  refine zT.aload_n 0 dX1_sort_2 rfl rfl ?_
  refine zT.getR dX1_sort_3 fX1_66 rfl (zPan.k hR.sh) (j := 7) (by decide) rfl ?_
  refine zT.getI dX1_sort_6 fX1_258 rfl (zKit.k hR.ki.2.1.1) (j := 10) (by decide) rfl (fun z6 => ?_)
  refine zT.iconst dX1_sort_9 ?_
  refine zT.isub dX1_sort_10 ?_
  refine zT.callS (M' := mX1_isIn) [zI s, zI 0, zI ((m (m x 7) 210) - 1)] [] dX1_sort_11 kX1_231 rfl rfl (C_X1_isIn (by first | assumption | exact zq_i _ | exact zand_i _ _ | exact zor_i _ _ | exact zxor_i _ _ | exact zN _ | omega) (by first | assumption | exact zq_i _ | exact zand_i _ _ | exact zor_i _ _ | exact zxor_i _ _ | exact zN _ | omega) (by first | assumption | exact zq_i _ | exact zand_i _ _ | exact zor_i _ _ | exact zxor_i _ _ | exact zN _ | omega)) (by decide) (k' := 0) (n' := 0) (by omega) (by omega) (by decide) (zdk (v := some (zI (zq (0 ≤ s ∧ s ≤ ((m (m x 7) 210) - 1))))) ?_) (fun _ _ _ _ h => h.elim)
  show zT G _ _ _ _ [zI (zq (0 ≤ s ∧ s ≤ ((m (m x 7) 210) - 1)))] _ _ _ _ _ _
  refine zT.if_eqB (tgt := 30) dX1_sort_14 (by decide) (fun c14 => ?_) (fun c14 => ?_)
  · refine zT.iconst dX1_sort_30 ?_
    exfalso; omega
  · refine zT.iload_n 2 dX1_sort_17 rfl rfl ?_
    refine zT.iconst dX1_sort_18 ?_
    refine zT.iconst dX1_sort_19 ?_
    refine zT.callS (M' := mX1_isIn) [zI c, zI 0, zI 1] [] dX1_sort_20 kX1_231 rfl rfl (C_X1_isIn (by first | assumption | exact zq_i _ | exact zand_i _ _ | exact zor_i _ _ | exact zxor_i _ _ | exact zN _ | omega) (by first | assumption | exact zq_i _ | exact zand_i _ _ | exact zor_i _ _ | exact zxor_i _ _ | exact zN _ | omega) (by first | assumption | exact zq_i _ | exact zand_i _ _ | exact zor_i _ _ | exact zxor_i _ _ | exact zN _ | omega)) (by decide) (k' := 0) (n' := 0) (by omega) (by omega) (by decide) (zdk (v := some (zI (zq (0 ≤ c ∧ c ≤ 1)))) ?_) (fun _ _ _ _ h => h.elim)
    show zT G _ _ _ _ [zI (zq (0 ≤ c ∧ c ≤ 1))] _ _ _ _ _ _
    refine zT.if_eqB (tgt := 30) dX1_sort_23 (by decide) (fun c23 => ?_) (fun c23 => ?_)
    · refine zT.iconst dX1_sort_30 ?_
      exfalso; omega
    · refine zT.iconst dX1_sort_26 ?_
      refine zT.goto (tgt := 31) dX1_sort_27 (by decide) ?_
      refine zT.callS (M' := mX1_must) [zI 1] [] dX1_sort_31 kX1_239 rfl rfl (C_X1_must (by omega) (by omega)) (by decide) (k' := 0) (n' := 0) (by omega) (by omega) (by decide) (zdk (v := none) ?_) (fun _ _ _ _ h => h.elim)
      show zT G _ _ _ _ [] _ _ _ _ _ _
      refine zT.iload_n 2 dX1_sort_34 rfl rfl ?_
      refine zT.if_ne (tgt := 50) dX1_sort_35 (by decide) (by first | assumption | exact zq_i _ | exact zand_i _ _ | exact zor_i _ _ | exact zxor_i _ _ | exact zN _ | omega) (fun c35 => ?_) (fun c35 => ?_)
      · refine zT.aload_n 0 dX1_sort_50 rfl rfl ?_
        refine zT.getR dX1_sort_51 fX1_66 rfl (zPan.k hR.sh) (j := 7) (by decide) rfl ?_
        refine zT.getF dX1_sort_54 fX1_264 rfl (zKit.k hR.ki.2.1.1) (j := 6) (by decide) rfl (zKit.f206 hR.ki.2.1.1) ?_
        refine zT.iload_n 1 dX1_sort_57 rfl rfl ?_
        refine zT.iald dX1_sort_58 (zKit.a206 hR.ki.2.1.1) (by first | assumption | exact zq_i _ | exact zand_i _ _ | exact zor_i _ _ | exact zxor_i _ _ | exact zN _ | omega) (by rw [(zKit.n206 hR.ki.2.1.1)]; first | assumption | exact zq_i _ | exact zand_i _ _ | exact zor_i _ _ | exact zxor_i _ _ | exact zN _ | omega) (fun z58 => ?_)
        refine zT.iret dX1_sort_59 rfl ?_
        have hsl := hkr.2.2.2.2 s (by omega) (by omega)
        refine ⟨?_, rfl, rfl⟩
        first
          | (have ec : c = 0 := by omega
             subst ec
             rw [← hsl.1])
          | (have ec : c = 1 := by omega
             subst ec
             rw [← hsl.2])
      · refine zT.aload_n 0 dX1_sort_38 rfl rfl ?_
        refine zT.getR dX1_sort_39 fX1_66 rfl (zPan.k hR.sh) (j := 7) (by decide) rfl ?_
        refine zT.getF dX1_sort_42 fX1_261 rfl (zKit.k hR.ki.2.1.1) (j := 5) (by decide) rfl (zKit.f205 hR.ki.2.1.1) ?_
        refine zT.iload_n 1 dX1_sort_45 rfl rfl ?_
        refine zT.iald dX1_sort_46 (zKit.a205 hR.ki.2.1.1) (by first | assumption | exact zq_i _ | exact zand_i _ _ | exact zor_i _ _ | exact zxor_i _ _ | exact zN _ | omega) (by rw [(zKit.n205 hR.ki.2.1.1)]; first | assumption | exact zq_i _ | exact zand_i _ _ | exact zor_i _ _ | exact zxor_i _ _ | exact zN _ | omega) (fun z46 => ?_)
        refine zT.goto (tgt := 59) dX1_sort_47 (by decide) ?_
        refine zT.iret dX1_sort_59 rfl ?_
        have hsl := hkr.2.2.2.2 s (by omega) (by omega)
        refine ⟨?_, rfl, rfl⟩
        first
          | (have ec : c = 0 := by omega
             subst ec
             rw [← hsl.1])
          | (have ec : c = 1 := by omega
             subst ec
             rw [← hsl.2])

theorem C_X1_sort_x {G : zG}  {S : zS} {m : zMm} {x : Int} {A : zMm} (hR : rel S m x A) {s c : Int} (hs : zi s) (hc : zi c) (hP : ¬ ((0 ≤ s ∧ s < (aK (A 0 1023) (A 2)) 7) ∧ 0 ≤ c ∧ c ≤ 1)) : zC G mX1_sort 9 1 6 [zR x, zI s, zI c] S m (fun _ _ _ => False) (fun E q S2 m2 => E = "java/util/NoSuchElementException" ∧ zGr S S2 ∧ m2 = m) := by
  have hk := hR.vki.1
  have hKi := (hR.ki.2.1).ki hk
  have hKn := hKi.nu
  have hkr := hR.ki.2.1
  have hkf := hkr.2.1
  have hk0 := hk.1
  refine zC.of [zR x, zI s, zI c] (by decide) rfl (zEn1 (zcR _) (zEn1 (zcI _) (zEn1 (zcI _) (zEn0 (by simp))))) rfl ?_
  refine zT.iload_n 1 dX1_sort_0 rfl rfl ?_
  refine zT.iconst dX1_sort_1 ?_
  refine zT.aload_n 0 dX1_sort_2 rfl rfl ?_
  refine zT.getR dX1_sort_3 fX1_66 rfl (zPan.k hR.sh) (j := 7) (by decide) rfl ?_
  refine zT.getI dX1_sort_6 fX1_258 rfl (zKit.k hR.ki.2.1.1) (j := 10) (by decide) rfl (fun z6 => ?_)
  refine zT.iconst dX1_sort_9 ?_
  refine zT.isub dX1_sort_10 ?_
  refine zT.callS (M' := mX1_isIn) [zI s, zI 0, zI ((m (m x 7) 210) - 1)] [] dX1_sort_11 kX1_231 rfl rfl (C_X1_isIn (by first | assumption | exact zq_i _ | exact zand_i _ _ | exact zor_i _ _ | exact zxor_i _ _ | exact zN _ | omega) (by first | assumption | exact zq_i _ | exact zand_i _ _ | exact zor_i _ _ | exact zxor_i _ _ | exact zN _ | omega) (by first | assumption | exact zq_i _ | exact zand_i _ _ | exact zor_i _ _ | exact zxor_i _ _ | exact zN _ | omega)) (by decide) (k' := 1) (n' := 6) (by omega) (by omega) (by decide) (zdk (v := some (zI (zq (0 ≤ s ∧ s ≤ ((m (m x 7) 210) - 1))))) ?_) (fun _ _ _ _ h => h.elim)
  show zT G _ _ _ _ [zI (zq (0 ≤ s ∧ s ≤ ((m (m x 7) 210) - 1)))] _ _ _ _ _ _
  refine zT.if_eqB (tgt := 30) dX1_sort_14 (by decide) (fun c14 => ?_) (fun c14 => ?_)
  · refine zT.iconst dX1_sort_30 ?_
    refine zT.callS (M' := mX1_must) [zI 0] [] dX1_sort_31 kX1_239 rfl rfl (C_X1_must_x rfl) (by decide) (k' := 0) (n' := 0) (by omega) (by omega) (by decide) (fun _ _ _ h => h.elim) (fun E31 q31 S31x m31x h31x => ?_)
    obtain ⟨rfl, g31, rfl⟩ := h31x
    refine zTX.out rfl ?_
    exact ⟨rfl, g31, rfl⟩
  · refine zT.iload_n 2 dX1_sort_17 rfl rfl ?_
    refine zT.iconst dX1_sort_18 ?_
    refine zT.iconst dX1_sort_19 ?_
    refine zT.callS (M' := mX1_isIn) [zI c, zI 0, zI 1] [] dX1_sort_20 kX1_231 rfl rfl (C_X1_isIn (by first | assumption | exact zq_i _ | exact zand_i _ _ | exact zor_i _ _ | exact zxor_i _ _ | exact zN _ | omega) (by first | assumption | exact zq_i _ | exact zand_i _ _ | exact zor_i _ _ | exact zxor_i _ _ | exact zN _ | omega) (by first | assumption | exact zq_i _ | exact zand_i _ _ | exact zor_i _ _ | exact zxor_i _ _ | exact zN _ | omega)) (by decide) (k' := 1) (n' := 6) (by omega) (by omega) (by decide) (zdk (v := some (zI (zq (0 ≤ c ∧ c ≤ 1)))) ?_) (fun _ _ _ _ h => h.elim)
    show zT G _ _ _ _ [zI (zq (0 ≤ c ∧ c ≤ 1))] _ _ _ _ _ _
    refine zT.if_eqB (tgt := 30) dX1_sort_23 (by decide) (fun c23 => ?_) (fun c23 => ?_)
    · refine zT.iconst dX1_sort_30 ?_
      refine zT.callS (M' := mX1_must) [zI 0] [] dX1_sort_31 kX1_239 rfl rfl (C_X1_must_x rfl) (by decide) (k' := 0) (n' := 0) (by omega) (by omega) (by decide) (fun _ _ _ h => h.elim) (fun E31 q31 S31x m31x h31x => ?_)
      obtain ⟨rfl, g31, rfl⟩ := h31x
      refine zTX.out rfl ?_
      exact ⟨rfl, g31, rfl⟩
    · refine zT.iconst dX1_sort_26 ?_
      refine zT.goto (tgt := 31) dX1_sort_27 (by decide) ?_
      exfalso; omega

theorem C_X1_left {G : zG}  {S : zS} {m : zMm} {x : Int} {A : zMm} (hR : rel S m x A) {s c : Int} (hs : zi s) (hc : zi c) (hP : (0 ≤ s ∧ s < (aK (A 0 1023) (A 2)) 5) ∧ 0 ≤ c ∧ c ≤ 1) : zC G mX1_left 9 0 0 [zR x, zI s, zI c] S m (zDet (some (zI ((aK (A 0 1023) (A 2)) (8 + 3 * s + c) - ahad (aGo (A 2) 58) s c (A 2 58)))) S m) zNX := by
  have hk := hR.vki.1
  have hKi := (hR.ki.2.1).ki hk
  have hKn := hKi.nu
  have hkr := hR.ki.2.1
  have hkf := hkr.2.1
  have hk0 := hk.1
  have hpl := hR.pl
  have hpv := hR.vpl
  have hPl := hpl.pl hpv
  have hPl0 := hPl.1
  have hPl1 := hPl.2.1
  have hgn := hpl.2.1
  refine zC.of [zR x, zI s, zI c] (by decide) rfl (zEn1 (zcR _) (zEn1 (zcI _) (zEn1 (zcI _) (zEn0 (by simp))))) rfl ?_
  refine zT.aload_n 0 dX1_left_0 rfl rfl ?_
  refine zT.iload_n 1 dX1_left_1 rfl rfl ?_
  refine zT.callV (M' := mX1_isSlice) (b := x) [zI s] [] dX1_left_2 kX1_235 rfl rfl (ci := 0) (r := (RX1, TX1, 42)) rfl (zPan.k hR.sh) (C_X1_isSlice hR (by first | assumption | exact zq_i _ | exact zand_i _ _ | exact zor_i _ _ | exact zxor_i _ _ | exact zN _ | omega)) (by decide) (k' := 0) (n' := 0) (by omega) (by omega) (by decide) (zdk (v := some (zI (zq (0 ≤ s ∧ s < (aK (A 0 1023) (A 2)) 5)))) ?_) (fun _ _ _ _ h => h.elim)
  show zT G _ _ _ _ [zI (zq (0 ≤ s ∧ s < (aK (A 0 1023) (A 2)) 5))] _ _ _ _ _ _
  refine zT.if_eqB (tgt := 21) dX1_left_5 (by decide) (fun c5 => ?_) (fun c5 => ?_)
  · refine zT.iconst dX1_left_21 ?_
    exfalso; omega
  · refine zT.iload_n 2 dX1_left_8 rfl rfl ?_
    refine zT.iconst dX1_left_9 ?_
    refine zT.iconst dX1_left_10 ?_
    refine zT.callS (M' := mX1_isIn) [zI c, zI 0, zI 1] [] dX1_left_11 kX1_231 rfl rfl (C_X1_isIn (by first | assumption | exact zq_i _ | exact zand_i _ _ | exact zor_i _ _ | exact zxor_i _ _ | exact zN _ | omega) (by first | assumption | exact zq_i _ | exact zand_i _ _ | exact zor_i _ _ | exact zxor_i _ _ | exact zN _ | omega) (by first | assumption | exact zq_i _ | exact zand_i _ _ | exact zor_i _ _ | exact zxor_i _ _ | exact zN _ | omega)) (by decide) (k' := 0) (n' := 0) (by omega) (by omega) (by decide) (zdk (v := some (zI (zq (0 ≤ c ∧ c ≤ 1)))) ?_) (fun _ _ _ _ h => h.elim)
    show zT G _ _ _ _ [zI (zq (0 ≤ c ∧ c ≤ 1))] _ _ _ _ _ _
    refine zT.if_eqB (tgt := 21) dX1_left_14 (by decide) (fun c14 => ?_) (fun c14 => ?_)
    · refine zT.iconst dX1_left_21 ?_
      exfalso; omega
    · refine zT.iconst dX1_left_17 ?_
      refine zT.goto (tgt := 22) dX1_left_18 (by decide) ?_
      refine zT.callS (M' := mX1_must) [zI 1] [] dX1_left_22 kX1_239 rfl rfl (C_X1_must (by omega) (by omega)) (by decide) (k' := 0) (n' := 0) (by omega) (by omega) (by decide) (zdk (v := none) ?_) (fun _ _ _ _ h => h.elim)
      show zT G _ _ _ _ [] _ _ _ _ _ _
      refine zT.aload_n 0 dX1_left_25 rfl rfl ?_
      refine zT.getF dX1_left_26 fX1_73 rfl (zPan.k hR.sh) (j := 8) (by decide) rfl (zPan.f8 hR.sh) ?_
      refine zT.aload_n 0 dX1_left_29 rfl rfl ?_
      refine zT.getR dX1_left_30 fX1_66 rfl (zPan.k hR.sh) (j := 7) (by decide) rfl ?_
      refine zT.iload_n 1 dX1_left_33 rfl rfl ?_
      refine zT.iload_n 2 dX1_left_34 rfl rfl ?_
      refine zT.callV (M' := mX4_left) (b := (x + 14)) [zR (m x 7), zI s, zI c] [] dX1_left_35 kX1_292 rfl rfl (ci := 3) (r := (RX4, TX4, 6)) rfl (zPlan.k (zPan.o8 hR.sh)) (C_X4_left (zPan.o8 hR.sh) hPl hR.ki.2.1.1 (by first | assumption | exact zq_i _ | exact zand_i _ _ | exact zor_i _ _ | exact zxor_i _ _ | exact zN _ | omega) (by first | assumption | exact zq_i _ | exact zand_i _ _ | exact zor_i _ _ | exact zxor_i _ _ | exact zN _ | omega)) (by decide) (k' := 0) (n' := 0) (by omega) (by omega) (by decide) (zdk (v := some (zI (m ((m x 7) + 3) (2 * s + c) - zhad m (x + 14) s c (m (x + 14) 305)))) ?_) (fun _ _ _ _ h => h.elim)
      show zT G _ _ _ _ [zI (m ((m x 7) + 3) (2 * s + c) - zhad m (x + 14) s c (m (x + 14) 305))] _ _ _ _ _ _
      refine zT.iret dX1_left_38 rfl ?_
      have hsl := hkr.2.2.1 s (by omega) (by omega)
      refine ⟨?_, rfl, rfl⟩
      rw [zhad_a hpl (by omega), hgn]
      have ec : c = 0 ∨ c = 1 := by omega
      rcases ec with rfl | rfl
      · rw [← hsl.1, Int.add_zero]
      · rw [← hsl.2.1]

theorem C_X1_left_x {G : zG}  {S : zS} {m : zMm} {x : Int} {A : zMm} (hR : rel S m x A) {s c : Int} (hs : zi s) (hc : zi c) (hP : ¬ ((0 ≤ s ∧ s < (aK (A 0 1023) (A 2)) 5) ∧ 0 ≤ c ∧ c ≤ 1)) : zC G mX1_left 9 1 6 [zR x, zI s, zI c] S m (fun _ _ _ => False) (fun E q S2 m2 => E = "java/util/NoSuchElementException" ∧ zGr S S2 ∧ m2 = m) := by
  have hk := hR.vki.1
  have hKi := (hR.ki.2.1).ki hk
  have hKn := hKi.nu
  have hkr := hR.ki.2.1
  have hkf := hkr.2.1
  have hk0 := hk.1
  have hpl := hR.pl
  have hpv := hR.vpl
  have hPl := hpl.pl hpv
  have hPl0 := hPl.1
  have hPl1 := hPl.2.1
  have hgn := hpl.2.1
  refine zC.of [zR x, zI s, zI c] (by decide) rfl (zEn1 (zcR _) (zEn1 (zcI _) (zEn1 (zcI _) (zEn0 (by simp))))) rfl ?_
  refine zT.aload_n 0 dX1_left_0 rfl rfl ?_
  refine zT.iload_n 1 dX1_left_1 rfl rfl ?_
  refine zT.callV (M' := mX1_isSlice) (b := x) [zI s] [] dX1_left_2 kX1_235 rfl rfl (ci := 0) (r := (RX1, TX1, 42)) rfl (zPan.k hR.sh) (C_X1_isSlice hR (by first | assumption | exact zq_i _ | exact zand_i _ _ | exact zor_i _ _ | exact zxor_i _ _ | exact zN _ | omega)) (by decide) (k' := 1) (n' := 6) (by omega) (by omega) (by decide) (zdk (v := some (zI (zq (0 ≤ s ∧ s < (aK (A 0 1023) (A 2)) 5)))) ?_) (fun _ _ _ _ h => h.elim)
  show zT G _ _ _ _ [zI (zq (0 ≤ s ∧ s < (aK (A 0 1023) (A 2)) 5))] _ _ _ _ _ _
  refine zT.if_eqB (tgt := 21) dX1_left_5 (by decide) (fun c5 => ?_) (fun c5 => ?_)
  · refine zT.iconst dX1_left_21 ?_
    refine zT.callS (M' := mX1_must) [zI 0] [] dX1_left_22 kX1_239 rfl rfl (C_X1_must_x rfl) (by decide) (k' := 0) (n' := 0) (by omega) (by omega) (by decide) (fun _ _ _ h => h.elim) (fun E22 q22 S22x m22x h22x => ?_)
    obtain ⟨rfl, g22, rfl⟩ := h22x
    refine zTX.out rfl ?_
    exact ⟨rfl, g22, rfl⟩
  · refine zT.iload_n 2 dX1_left_8 rfl rfl ?_
    refine zT.iconst dX1_left_9 ?_
    refine zT.iconst dX1_left_10 ?_
    refine zT.callS (M' := mX1_isIn) [zI c, zI 0, zI 1] [] dX1_left_11 kX1_231 rfl rfl (C_X1_isIn (by first | assumption | exact zq_i _ | exact zand_i _ _ | exact zor_i _ _ | exact zxor_i _ _ | exact zN _ | omega) (by first | assumption | exact zq_i _ | exact zand_i _ _ | exact zor_i _ _ | exact zxor_i _ _ | exact zN _ | omega) (by first | assumption | exact zq_i _ | exact zand_i _ _ | exact zor_i _ _ | exact zxor_i _ _ | exact zN _ | omega)) (by decide) (k' := 1) (n' := 6) (by omega) (by omega) (by decide) (zdk (v := some (zI (zq (0 ≤ c ∧ c ≤ 1)))) ?_) (fun _ _ _ _ h => h.elim)
    show zT G _ _ _ _ [zI (zq (0 ≤ c ∧ c ≤ 1))] _ _ _ _ _ _
    refine zT.if_eqB (tgt := 21) dX1_left_14 (by decide) (fun c14 => ?_) (fun c14 => ?_)
    · refine zT.iconst dX1_left_21 ?_
      refine zT.callS (M' := mX1_must) [zI 0] [] dX1_left_22 kX1_239 rfl rfl (C_X1_must_x rfl) (by decide) (k' := 0) (n' := 0) (by omega) (by omega) (by decide) (fun _ _ _ h => h.elim) (fun E22 q22 S22x m22x h22x => ?_)
      obtain ⟨rfl, g22, rfl⟩ := h22x
      refine zTX.out rfl ?_
      exact ⟨rfl, g22, rfl⟩
    · refine zT.iconst dX1_left_17 ?_
      refine zT.goto (tgt := 22) dX1_left_18 (by decide) ?_
      exfalso; omega

theorem C_X1_go {G : zG}  {S : zS} {m : zMm} {x : Int} {A : zMm} (hR : rel S m x A) {k w : Int} (hk : zi k) (hw : zi w) : zC G mX1_go 1 0 0 [zR x, zI k, zI w] S m (zDet (some (zI (if 0 ≤ k ∧ k < (A 2 58) ∧ 0 ≤ w ∧ w ≤ 4 then (aGo (A 2) 58) k w else -1))) S m) zNX := by
  have hpl := hR.pl
  have hpv := hR.vpl
  have hPl := hpl.pl hpv
  have hPl0 := hPl.1
  have hPl1 := hPl.2.1
  have hgn := hpl.2.1
  refine zC.of [zR x, zI k, zI w] (by decide) rfl (zEn1 (zcR _) (zEn1 (zcI _) (zEn1 (zcI _) (zEn0 (by simp))))) rfl ?_
  refine zT.iload_n 1 dX1_go_0 rfl rfl ?_
  refine zT.iconst dX1_go_1 ?_
  refine zT.aload_n 0 dX1_go_2 rfl rfl ?_
  refine zT.getF dX1_go_3 fX1_73 rfl (zPan.k hR.sh) (j := 8) (by decide) rfl (zPan.f8 hR.sh) ?_
  refine zT.getI dX1_go_6 fX1_213 rfl (zPlan.k (zPan.o8 hR.sh)) (j := 5) (by decide) rfl (fun z6 => ?_)
  refine zT.iconst dX1_go_9 ?_
  refine zT.isub dX1_go_10 ?_
  refine zT.callS (M' := mX1_isIn) [zI k, zI 0, zI ((m (x + 14) 305) - 1)] [] dX1_go_11 kX1_231 rfl rfl (C_X1_isIn (by first | assumption | exact zq_i _ | exact zand_i _ _ | exact zor_i _ _ | exact zxor_i _ _ | exact zN _ | omega) (by first | assumption | exact zq_i _ | exact zand_i _ _ | exact zor_i _ _ | exact zxor_i _ _ | exact zN _ | omega) (by first | assumption | exact zq_i _ | exact zand_i _ _ | exact zor_i _ _ | exact zxor_i _ _ | exact zN _ | omega)) (by decide) (k' := 0) (n' := 0) (by omega) (by omega) (by decide) (zdk (v := some (zI (zq (0 ≤ k ∧ k ≤ ((m (x + 14) 305) - 1))))) ?_) (fun _ _ _ _ h => h.elim)
  show zT G _ _ _ _ [zI (zq (0 ≤ k ∧ k ≤ ((m (x + 14) 305) - 1)))] _ _ _ _ _ _
  refine zT.if_neB (tgt := 19) dX1_go_14 (by decide) (fun c14 => ?_) (fun c14 => ?_)
  · refine zT.iload_n 2 dX1_go_19 rfl rfl ?_
    refine zT.tsw (td := 106) [56, 66, 76, 86, 96] dX1_go_20 (by first | assumption | exact zq_i _ | exact zand_i _ _ | exact zor_i _ _ | exact zxor_i _ _ | exact zN _ | omega) rfl (by decide) (fun c20 => ?_) ⟨by decide, fun c20 => ?_, by decide, fun c20 => ?_, by decide, fun c20 => ?_, by decide, fun c20 => ?_, by decide, fun c20 => ?_, trivial⟩
    · refine zT.iconst dX1_go_106 ?_
      refine zT.iret dX1_go_107 rfl ?_
      refine ⟨?_, rfl, rfl⟩
      first
        | rw [if_neg (by omega)]
        | (have ge := hpl.2.2 k (by omega) (by omega)
           rw [if_pos (by omega)]
           first
             | (have ew : w = 0 := by omega
                rw [ew, ← ge.1])
             | (have ew : w = 1 := by omega
                rw [ew, ← ge.2.1])
             | (have ew : w = 2 := by omega
                rw [ew, ← ge.2.2.1])
             | (have ew : w = 3 := by omega
                rw [ew, ← ge.2.2.2.1])
             | (have ew : w = 4 := by omega
                rw [ew, ← ge.2.2.2.2]))
    · refine zT.aload_n 0 dX1_go_56 rfl rfl ?_
      refine zT.getF dX1_go_57 fX1_73 rfl (zPan.k hR.sh) (j := 8) (by decide) rfl (zPan.f8 hR.sh) ?_
      refine zT.getF dX1_go_60 fX1_279 rfl (zPlan.k (zPan.o8 hR.sh)) (j := 0) (by decide) rfl (zPlan.f300 (zPan.o8 hR.sh)) ?_
      refine zT.iload_n 1 dX1_go_63 rfl rfl ?_
      refine zT.iald dX1_go_64 (zPlan.a300 (zPan.o8 hR.sh)) (by first | assumption | exact zq_i _ | exact zand_i _ _ | exact zor_i _ _ | exact zxor_i _ _ | exact zN _ | omega) (by rw [(zPlan.n300 (zPan.o8 hR.sh))]; first | assumption | exact zq_i _ | exact zand_i _ _ | exact zor_i _ _ | exact zxor_i _ _ | exact zN _ | omega) (fun z64 => ?_)
      refine zT.iret dX1_go_65 rfl ?_
      refine ⟨?_, rfl, rfl⟩
      first
        | rw [if_neg (by omega)]
        | (have ge := hpl.2.2 k (by omega) (by omega)
           rw [if_pos (by omega)]
           first
             | (have ew : w = 0 := by omega
                rw [ew, ← ge.1])
             | (have ew : w = 1 := by omega
                rw [ew, ← ge.2.1])
             | (have ew : w = 2 := by omega
                rw [ew, ← ge.2.2.1])
             | (have ew : w = 3 := by omega
                rw [ew, ← ge.2.2.2.1])
             | (have ew : w = 4 := by omega
                rw [ew, ← ge.2.2.2.2]))
    · refine zT.aload_n 0 dX1_go_66 rfl rfl ?_
      refine zT.getF dX1_go_67 fX1_73 rfl (zPan.k hR.sh) (j := 8) (by decide) rfl (zPan.f8 hR.sh) ?_
      refine zT.getF dX1_go_70 fX1_281 rfl (zPlan.k (zPan.o8 hR.sh)) (j := 1) (by decide) rfl (zPlan.f301 (zPan.o8 hR.sh)) ?_
      refine zT.iload_n 1 dX1_go_73 rfl rfl ?_
      refine zT.iald dX1_go_74 (zPlan.a301 (zPan.o8 hR.sh)) (by first | assumption | exact zq_i _ | exact zand_i _ _ | exact zor_i _ _ | exact zxor_i _ _ | exact zN _ | omega) (by rw [(zPlan.n301 (zPan.o8 hR.sh))]; first | assumption | exact zq_i _ | exact zand_i _ _ | exact zor_i _ _ | exact zxor_i _ _ | exact zN _ | omega) (fun z74 => ?_)
      refine zT.iret dX1_go_75 rfl ?_
      refine ⟨?_, rfl, rfl⟩
      first
        | rw [if_neg (by omega)]
        | (have ge := hpl.2.2 k (by omega) (by omega)
           rw [if_pos (by omega)]
           first
             | (have ew : w = 0 := by omega
                rw [ew, ← ge.1])
             | (have ew : w = 1 := by omega
                rw [ew, ← ge.2.1])
             | (have ew : w = 2 := by omega
                rw [ew, ← ge.2.2.1])
             | (have ew : w = 3 := by omega
                rw [ew, ← ge.2.2.2.1])
             | (have ew : w = 4 := by omega
                rw [ew, ← ge.2.2.2.2]))
    · refine zT.aload_n 0 dX1_go_76 rfl rfl ?_
      refine zT.getF dX1_go_77 fX1_73 rfl (zPan.k hR.sh) (j := 8) (by decide) rfl (zPan.f8 hR.sh) ?_
      refine zT.getF dX1_go_80 fX1_284 rfl (zPlan.k (zPan.o8 hR.sh)) (j := 2) (by decide) rfl (zPlan.f302 (zPan.o8 hR.sh)) ?_
      refine zT.iload_n 1 dX1_go_83 rfl rfl ?_
      refine zT.iald dX1_go_84 (zPlan.a302 (zPan.o8 hR.sh)) (by first | assumption | exact zq_i _ | exact zand_i _ _ | exact zor_i _ _ | exact zxor_i _ _ | exact zN _ | omega) (by rw [(zPlan.n302 (zPan.o8 hR.sh))]; first | assumption | exact zq_i _ | exact zand_i _ _ | exact zor_i _ _ | exact zxor_i _ _ | exact zN _ | omega) (fun z84 => ?_)
      refine zT.iret dX1_go_85 rfl ?_
      refine ⟨?_, rfl, rfl⟩
      first
        | rw [if_neg (by omega)]
        | (have ge := hpl.2.2 k (by omega) (by omega)
           rw [if_pos (by omega)]
           first
             | (have ew : w = 0 := by omega
                rw [ew, ← ge.1])
             | (have ew : w = 1 := by omega
                rw [ew, ← ge.2.1])
             | (have ew : w = 2 := by omega
                rw [ew, ← ge.2.2.1])
             | (have ew : w = 3 := by omega
                rw [ew, ← ge.2.2.2.1])
             | (have ew : w = 4 := by omega
                rw [ew, ← ge.2.2.2.2]))
    · refine zT.aload_n 0 dX1_go_86 rfl rfl ?_
      refine zT.getF dX1_go_87 fX1_73 rfl (zPan.k hR.sh) (j := 8) (by decide) rfl (zPan.f8 hR.sh) ?_
      refine zT.getF dX1_go_90 fX1_287 rfl (zPlan.k (zPan.o8 hR.sh)) (j := 3) (by decide) rfl (zPlan.f303 (zPan.o8 hR.sh)) ?_
      refine zT.iload_n 1 dX1_go_93 rfl rfl ?_
      refine zT.iald dX1_go_94 (zPlan.a303 (zPan.o8 hR.sh)) (by first | assumption | exact zq_i _ | exact zand_i _ _ | exact zor_i _ _ | exact zxor_i _ _ | exact zN _ | omega) (by rw [(zPlan.n303 (zPan.o8 hR.sh))]; first | assumption | exact zq_i _ | exact zand_i _ _ | exact zor_i _ _ | exact zxor_i _ _ | exact zN _ | omega) (fun z94 => ?_)
      refine zT.iret dX1_go_95 rfl ?_
      refine ⟨?_, rfl, rfl⟩
      first
        | rw [if_neg (by omega)]
        | (have ge := hpl.2.2 k (by omega) (by omega)
           rw [if_pos (by omega)]
           first
             | (have ew : w = 0 := by omega
                rw [ew, ← ge.1])
             | (have ew : w = 1 := by omega
                rw [ew, ← ge.2.1])
             | (have ew : w = 2 := by omega
                rw [ew, ← ge.2.2.1])
             | (have ew : w = 3 := by omega
                rw [ew, ← ge.2.2.2.1])
             | (have ew : w = 4 := by omega
                rw [ew, ← ge.2.2.2.2]))
    · refine zT.aload_n 0 dX1_go_96 rfl rfl ?_
      refine zT.getF dX1_go_97 fX1_73 rfl (zPan.k hR.sh) (j := 8) (by decide) rfl (zPan.f8 hR.sh) ?_
      refine zT.getF dX1_go_100 fX1_289 rfl (zPlan.k (zPan.o8 hR.sh)) (j := 4) (by decide) rfl (zPlan.f304 (zPan.o8 hR.sh)) ?_
      refine zT.iload_n 1 dX1_go_103 rfl rfl ?_
      refine zT.iald dX1_go_104 (zPlan.a304 (zPan.o8 hR.sh)) (by first | assumption | exact zq_i _ | exact zand_i _ _ | exact zor_i _ _ | exact zxor_i _ _ | exact zN _ | omega) (by rw [(zPlan.n304 (zPan.o8 hR.sh))]; first | assumption | exact zq_i _ | exact zand_i _ _ | exact zor_i _ _ | exact zxor_i _ _ | exact zN _ | omega) (fun z104 => ?_)
      refine zT.iret dX1_go_105 rfl ?_
      refine ⟨?_, rfl, rfl⟩
      first
        | rw [if_neg (by omega)]
        | (have ge := hpl.2.2 k (by omega) (by omega)
           rw [if_pos (by omega)]
           first
             | (have ew : w = 0 := by omega
                rw [ew, ← ge.1])
             | (have ew : w = 1 := by omega
                rw [ew, ← ge.2.1])
             | (have ew : w = 2 := by omega
                rw [ew, ← ge.2.2.1])
             | (have ew : w = 3 := by omega
                rw [ew, ← ge.2.2.2.1])
             | (have ew : w = 4 := by omega
                rw [ew, ← ge.2.2.2.2]))
  · refine zT.iconst dX1_go_17 ?_
    refine zT.iret dX1_go_18 rfl ?_
    refine ⟨?_, rfl, rfl⟩
    first
      | rw [if_neg (by omega)]
      | (have ge := hpl.2.2 k (by omega) (by omega)
         rw [if_pos (by omega)]
         first
           | (have ew : w = 0 := by omega
              rw [ew, ← ge.1])
           | (have ew : w = 1 := by omega
              rw [ew, ← ge.2.1])
           | (have ew : w = 2 := by omega
              rw [ew, ← ge.2.2.1])
           | (have ew : w = 3 := by omega
              rw [ew, ← ge.2.2.2.1])
           | (have ew : w = 4 := by omega
              rw [ew, ← ge.2.2.2.2]))

theorem C_X1_ends {G : zG}  {S : zS} {m : zMm} {x : Int} {A : zMm} (hR : rel S m x A)  : zC G mX1_ends 2 0 0 [zR x] S m (zDet (some (zI (aends (aGo (A 2) 58) (A 2 58)))) S m) zNX := by
  have hpl := hR.pl
  have hpv := hR.vpl
  have hPl := hpl.pl hpv
  have hPl0 := hPl.1
  have hPl1 := hPl.2.1
  have hgn := hpl.2.1
  refine zC.of [zR x] (by decide) rfl (zEn1 (zcR _) (zEn0 (by simp))) rfl ?_
  refine zT.aload_n 0 dX1_ends_0 rfl rfl ?_
  refine zT.getF dX1_ends_1 fX1_73 rfl (zPan.k hR.sh) (j := 8) (by decide) rfl (zPan.f8 hR.sh) ?_
  refine zT.callV (M' := mX4_ends) (b := (x + 14)) [] [] dX1_ends_4 kX1_296 rfl rfl (ci := 3) (r := (RX4, TX4, 6)) rfl (zPlan.k (zPan.o8 hR.sh)) (C_X4_ends (zPan.o8 hR.sh) hPl) (by decide) (k' := 0) (n' := 0) (by omega) (by omega) (by decide) (zdk (v := some (zI (zends m (x + 14) (m (x + 14) 305)))) ?_) (fun _ _ _ _ h => h.elim)
  show zT G _ _ _ _ [zI (zends m (x + 14) (m (x + 14) 305))] _ _ _ _ _ _
  refine zT.iret dX1_ends_7 rfl ?_
  exact ⟨by rw [zends_a hpl (by omega), hgn], rfl, rfl⟩

theorem C_X1_done {G : zG}  {S : zS} {m : zMm} {x : Int} {A : zMm} (hR : rel S m x A)  : zC G mX1_done 3 0 0 [zR x] S m (zDet (some (zI (fDone (aK (A 0 1023) (A 2)) (A 2 58) (aGo (A 2) 58) ((aK (A 0 1023) (A 2)) 5)))) S m) zNX := by
  have hk := hR.vki.1
  have hKi := (hR.ki.2.1).ki hk
  have hKn := hKi.nu
  have hkr := hR.ki.2.1
  have hkf := hkr.2.1
  have hk0 := hk.1
  have hpl := hR.pl
  have hpv := hR.vpl
  have hPl := hpl.pl hpv
  have hPl0 := hPl.1
  have hPl1 := hPl.2.1
  have hgn := hpl.2.1
  refine zC.of [zR x, zU, zU] (by decide) rfl (zEn1 (zcR _) (zEn0 (by simp))) rfl ?_
  refine zT.iconst dX1_done_0 ?_
  refine zT.istore_n 1 dX1_done_1 rfl (by decide) (zpre1 rfl (zcR _)) ?_
  show zT G _ _ _ [zR x, zI 0, zU] _ _ _ _ _ _ _
  refine zT.iconst dX1_done_2 ?_
  refine zT.istore_n 2 dX1_done_3 rfl (by decide) (zpre1 rfl (zcI _)) ?_
  show zT G _ _ _ [zR x, zI 0, zI 0] _ _ _ _ _ _ _
  have L4 : ∀ (N : Nat) (s : Int) (v : Int), (0 ≤ s) → (s ≤ (aK (A 0 1023) (A 2)) 5) → (v = fDone (aK (A 0 1023) (A 2)) (A 2 58) (aGo (A 2) 58) s) → (zi v) → (((aK (A 0 1023) (A 2)) 5 - s).toNat) < N → zT G mX1_done 3 4 [zR x, zI v, zI s] [] S m 0 0 (zDet (some (zI (fDone (aK (A 0 1023) (A 2)) (A 2 58) (aGo (A 2) 58) ((aK (A 0 1023) (A 2)) 5)))) S m) zNX := by
    intro N
    induction N with
    | zero => intro s v s0 s1 hv hvi hN; exact absurd hN (Nat.not_lt_zero _)
    | succ N ih4 =>
      intro s v s0 s1 hv hvi hN
      refine zT.iload_n 2 dX1_done_4 rfl rfl ?_
      refine zT.aload_n 0 dX1_done_5 rfl rfl ?_
      refine zT.getR dX1_done_6 fX1_66 rfl (zPan.k hR.sh) (j := 7) (by decide) rfl ?_
      refine zT.getI dX1_done_9 fX1_228 rfl (zKit.k hR.ki.2.1.1) (j := 8) (by decide) rfl (fun z9 => ?_)
      refine zT.ic_ge (tgt := 46) dX1_done_12 (by decide) (by first | assumption | exact zq_i _ | exact zand_i _ _ | exact zor_i _ _ | exact zxor_i _ _ | exact zN _ | omega) (by first | assumption | exact zq_i _ | exact zand_i _ _ | exact zor_i _ _ | exact zxor_i _ _ | exact zN _ | omega) (fun c12 => ?_) (fun c12 => ?_)
      · refine zT.iload_n 1 dX1_done_46 rfl rfl ?_
        refine zT.iret dX1_done_47 rfl ?_
        exact ⟨by rw [hv, show s = (aK (A 0 1023) (A 2)) 5 by omega], rfl, rfl⟩
      · refine zT.iload_n 1 dX1_done_15 rfl rfl ?_
        refine zT.aload_n 0 dX1_done_16 rfl rfl ?_
        refine zT.getF dX1_done_17 fX1_73 rfl (zPan.k hR.sh) (j := 8) (by decide) rfl (zPan.f8 hR.sh) ?_
        refine zT.aload_n 0 dX1_done_20 rfl rfl ?_
        refine zT.getR dX1_done_21 fX1_66 rfl (zPan.k hR.sh) (j := 7) (by decide) rfl ?_
        refine zT.iload_n 2 dX1_done_24 rfl rfl ?_
        refine zT.callV (M' := mX4_isDone) (b := (x + 14)) [zR (m x 7), zI s] [zI v] dX1_done_25 kX1_299 rfl rfl (ci := 3) (r := (RX4, TX4, 6)) rfl (zPlan.k (zPan.o8 hR.sh)) (C_X4_isDone (zPan.o8 hR.sh) hPl hR.ki.2.1.1 hKi (by first | assumption | exact zq_i _ | exact zand_i _ _ | exact zor_i _ _ | exact zxor_i _ _ | exact zN _ | omega)) (by decide) (k' := 0) (n' := 0) (by omega) (by omega) (by simp only [List.map, zcI, zcJ, zcR, List.sum_cons, List.sum_nil]; decide) (zdk (v := some (zI (zq (m ((m x 7) + 3) (2 * s + 0) - zhad m (x + 14) s 0 (m (x + 14) 305) ≤ 0 ∧ m ((m x 7) + 3) (2 * s + 1) - zhad m (x + 14) s 1 (m (x + 14) 305) ≤ 0)))) ?_) (fun _ _ _ _ h => h.elim)
        show zT G _ _ _ _ [zI (zq (m ((m x 7) + 3) (2 * s + 0) - zhad m (x + 14) s 0 (m (x + 14) 305) ≤ 0 ∧ m ((m x 7) + 3) (2 * s + 1) - zhad m (x + 14) s 1 (m (x + 14) 305) ≤ 0)), zI v] _ _ _ _ _ _
        refine zT.if_eqB (tgt := 37) dX1_done_28 (by decide) (fun c28 => ?_) (fun c28 => ?_)
        · refine zT.iconst dX1_done_37 ?_
          refine zT.ior dX1_done_38 ?_
          refine zT.istore_n 1 dX1_done_39 rfl (by decide) (zpre1 rfl (zcR _)) ?_
          show zT G _ _ _ [zR x, zI (zor v 0), zI s] _ _ _ _ _ _ _
          refine zT.iinc 2 dX1_done_40 rfl (by decide) (zpre1 rfl (zcI _)) ?_
          show zT G _ _ _ [zR x, zI (zor v 0), zI (s + 1)] _ _ _ _ _ _ _
          refine zT.goto (tgt := 4) dX1_done_43 (by decide) ?_
          exact ih4 _ _ (by first | assumption | exact zq_i _ | exact zand_i _ _ | exact zor_i _ _ | exact zxor_i _ _ | exact zN _ | omega) (by first | assumption | exact zq_i _ | exact zand_i _ _ | exact zor_i _ _ | exact zxor_i _ _ | exact zN _ | omega) (by
              unfold fDone at *
              rw [zfd_s s0, ← hv]
              have hsl := hkr.2.2.1 s (by omega) (by omega)
              have hsl0 : m (m x 7 + 3) (2 * s + 0) = (aK (A 0 1023) (A 2)) (8 + 3 * s + 0) := by
                rw [Int.add_zero (2 * s)]
                exact hsl.1
              have hc0 := zhad_a (s := s) (c := 0) hpl (Int.le_refl _)
              have hc1 := zhad_a (s := s) (c := 1) hpl (Int.le_refl _)
              first
                | rw [zite_t (by unfold fDn; rw [← hc0, ← hc1, ← hgn]; omega)]
                | (rw [zite_f (by unfold fDn; rw [← hc0, ← hc1, ← hgn]; omega), zor_0 hvi])) (by first | exact zor_i _ _ | assumption) (by omega)
        · refine zT.iconst dX1_done_31 ?_
          refine zT.iload_n 2 dX1_done_32 rfl rfl ?_
          refine zT.ishl dX1_done_33 (by first | assumption | exact zq_i _ | exact zand_i _ _ | exact zor_i _ _ | exact zxor_i _ _ | exact zN _ | omega) (by first | assumption | exact zq_i _ | exact zand_i _ _ | exact zor_i _ _ | exact zxor_i _ _ | exact zN _ | omega) ?_
          refine zT.goto (tgt := 38) dX1_done_34 (by decide) ?_
          refine zT.ior dX1_done_38 ?_
          refine zT.istore_n 1 dX1_done_39 rfl (by decide) (zpre1 rfl (zcR _)) ?_
          show zT G _ _ _ [zR x, zI (zor v (1 * 2 ^ s.toNat)), zI s] _ _ _ _ _ _ _
          refine zT.iinc 2 dX1_done_40 rfl (by decide) (zpre1 rfl (zcI _)) ?_
          show zT G _ _ _ [zR x, zI (zor v (1 * 2 ^ s.toNat)), zI (s + 1)] _ _ _ _ _ _ _
          refine zT.goto (tgt := 4) dX1_done_43 (by decide) ?_
          exact ih4 _ _ (by first | assumption | exact zq_i _ | exact zand_i _ _ | exact zor_i _ _ | exact zxor_i _ _ | exact zN _ | omega) (by first | assumption | exact zq_i _ | exact zand_i _ _ | exact zor_i _ _ | exact zxor_i _ _ | exact zN _ | omega) (by
              unfold fDone at *
              rw [zfd_s s0, ← hv]
              have hsl := hkr.2.2.1 s (by omega) (by omega)
              have hsl0 : m (m x 7 + 3) (2 * s + 0) = (aK (A 0 1023) (A 2)) (8 + 3 * s + 0) := by
                rw [Int.add_zero (2 * s)]
                exact hsl.1
              have hc0 := zhad_a (s := s) (c := 0) hpl (Int.le_refl _)
              have hc1 := zhad_a (s := s) (c := 1) hpl (Int.le_refl _)
              first
                | rw [zite_t (by unfold fDn; rw [← hc0, ← hc1, ← hgn]; omega)]
                | (rw [zite_f (by unfold fDn; rw [← hc0, ← hc1, ← hgn]; omega), zor_0 hvi])) (by first | exact zor_i _ _ | assumption) (by omega)
  exact L4 _ _ _ (by first | assumption | exact zq_i _ | exact zand_i _ _ | exact zor_i _ _ | exact zxor_i _ _ | exact zN _ | omega) (by first | assumption | exact zq_i _ | exact zand_i _ _ | exact zor_i _ _ | exact zxor_i _ _ | exact zN _ | omega) (by rfl) (by first | assumption | exact zq_i _ | exact zand_i _ _ | exact zor_i _ _ | exact zxor_i _ _ | exact zN _ | omega) (Nat.lt_succ_self _)

theorem C_X1_on {G : zG}  {S : zS} {m : zMm} {x : Int} {A : zMm} (hR : rel S m x A) {t : Int} (ht : zi t) : zC G mX1_on 1 0 0 [zR x, zI t] S m (zDet (some (zI (if 0 ≤ t ∧ t ≤ 999 then fOn (aGo (A 2) 58) t (A 2 58) else -1))) S m) zNX := by
  have hpl := hR.pl
  have hpv := hR.vpl
  have hPl := hpl.pl hpv
  have hPl0 := hPl.1
  have hPl1 := hPl.2.1
  have hgn := hpl.2.1
  refine zC.of [zR x, zI t, zU, zU] (by decide) rfl (zEn1 (zcR _) (zEn1 (zcI _) (zEn0 (by simp)))) rfl ?_
  refine zT.iload_n 1 dX1_on_0 rfl rfl ?_
  refine zT.iconst dX1_on_1 ?_
  refine zT.sipush dX1_on_2 ?_
  refine zT.callS (M' := mX1_isIn) [zI t, zI 0, zI 999] [] dX1_on_5 kX1_231 rfl rfl (C_X1_isIn (by first | assumption | exact zq_i _ | exact zand_i _ _ | exact zor_i _ _ | exact zxor_i _ _ | exact zN _ | omega) (by first | assumption | exact zq_i _ | exact zand_i _ _ | exact zor_i _ _ | exact zxor_i _ _ | exact zN _ | omega) (by first | assumption | exact zq_i _ | exact zand_i _ _ | exact zor_i _ _ | exact zxor_i _ _ | exact zN _ | omega)) (by decide) (k' := 0) (n' := 0) (by omega) (by omega) (by decide) (zdk (v := some (zI (zq (0 ≤ t ∧ t ≤ 999)))) ?_) (fun _ _ _ _ h => h.elim)
  show zT G _ _ _ _ [zI (zq (0 ≤ t ∧ t ≤ 999))] _ _ _ _ _ _
  refine zT.if_neB (tgt := 13) dX1_on_8 (by decide) (fun c8 => ?_) (fun c8 => ?_)
  · refine zT.iconst dX1_on_13 ?_
    refine zT.istore_n 2 dX1_on_14 rfl (by decide) (zpre1 rfl (zcI _)) ?_
    show zT G _ _ _ [zR x, zI t, zI 0, zU] _ _ _ _ _ _ _
    refine zT.iconst dX1_on_15 ?_
    refine zT.istore_n 3 dX1_on_16 rfl (by decide) (zpre1 rfl (zcI _)) ?_
    show zT G _ _ _ [zR x, zI t, zI 0, zI 0] _ _ _ _ _ _ _
    have L17 : ∀ (N : Nat) (k : Int) (v : Int), (0 ≤ k) → (k ≤ (A 2 58)) → (v = fOn (aGo (A 2) 58) t k) → (((A 2 58) - k).toNat) < N → zT G mX1_on 1 17 [zR x, zI t, zI v, zI k] [] S m 0 0 (zDet (some (zI (if 0 ≤ t ∧ t ≤ 999 then fOn (aGo (A 2) 58) t (A 2 58) else -1))) S m) zNX := by
      intro N
      induction N with
      | zero => intro k v k0 k1 hv hN; exact absurd hN (Nat.not_lt_zero _)
      | succ N ih17 =>
        intro k v k0 k1 hv hN
        refine zT.iload_n 3 dX1_on_17 rfl rfl ?_
        refine zT.aload_n 0 dX1_on_18 rfl rfl ?_
        refine zT.getF dX1_on_19 fX1_73 rfl (zPan.k hR.sh) (j := 8) (by decide) rfl (zPan.f8 hR.sh) ?_
        refine zT.getI dX1_on_22 fX1_213 rfl (zPlan.k (zPan.o8 hR.sh)) (j := 5) (by decide) rfl (fun z22 => ?_)
        refine zT.ic_ge (tgt := 74) dX1_on_25 (by decide) (by first | assumption | exact zq_i _ | exact zand_i _ _ | exact zor_i _ _ | exact zxor_i _ _ | exact zN _ | omega) (by first | assumption | exact zq_i _ | exact zand_i _ _ | exact zor_i _ _ | exact zxor_i _ _ | exact zN _ | omega) (fun c25 => ?_) (fun c25 => ?_)
        · refine zT.iload_n 2 dX1_on_74 rfl rfl ?_
          refine zT.iret dX1_on_75 rfl ?_
          exact ⟨by rw [if_pos (by omega), hv, show k = (A 2 58) by omega], rfl, rfl⟩
        · have ge := hpl.2.2 k (by omega) (by omega)
          have gv := hpv.2.2 k (by omega) (by omega)
          refine zT.iload_n 1 dX1_on_28 rfl rfl ?_
          refine zT.aload_n 0 dX1_on_29 rfl rfl ?_
          refine zT.getF dX1_on_30 fX1_73 rfl (zPan.k hR.sh) (j := 8) (by decide) rfl (zPan.f8 hR.sh) ?_
          refine zT.getF dX1_on_33 fX1_284 rfl (zPlan.k (zPan.o8 hR.sh)) (j := 2) (by decide) rfl (zPlan.f302 (zPan.o8 hR.sh)) ?_
          refine zT.iload_n 3 dX1_on_36 rfl rfl ?_
          refine zT.iald dX1_on_37 (zPlan.a302 (zPan.o8 hR.sh)) (by first | assumption | exact zq_i _ | exact zand_i _ _ | exact zor_i _ _ | exact zxor_i _ _ | exact zN _ | omega) (by rw [(zPlan.n302 (zPan.o8 hR.sh))]; first | assumption | exact zq_i _ | exact zand_i _ _ | exact zor_i _ _ | exact zxor_i _ _ | exact zN _ | omega) (fun z37 => ?_)
          refine zT.aload_n 0 dX1_on_38 rfl rfl ?_
          refine zT.getF dX1_on_39 fX1_73 rfl (zPan.k hR.sh) (j := 8) (by decide) rfl (zPan.f8 hR.sh) ?_
          refine zT.iload_n 3 dX1_on_42 rfl rfl ?_
          refine zT.callV (M' := mX4_end) (b := (x + 14)) [zI k] [zI (m ((x + 14) + 3) k), zI t] dX1_on_43 kX1_303 rfl rfl (ci := 3) (r := (RX4, TX4, 6)) rfl (zPlan.k (zPan.o8 hR.sh)) (C_X4_end (zPan.o8 hR.sh) (by first | assumption | exact zq_i _ | exact zand_i _ _ | exact zor_i _ _ | exact zxor_i _ _ | exact zN _ | omega) (by first | assumption | exact zq_i _ | exact zand_i _ _ | exact zor_i _ _ | exact zxor_i _ _ | exact zN _ | omega)) (by decide) (k' := 0) (n' := 0) (by omega) (by omega) (by simp only [List.map, zcI, zcJ, zcR, List.sum_cons, List.sum_nil]; decide) (zdk (v := some (zI (m ((x + 14) + 3) k + m ((x + 14) + 5) k))) ?_) (fun _ _ _ _ h => h.elim)
          show zT G _ _ _ _ [zI (m ((x + 14) + 3) k + m ((x + 14) + 5) k), zI (m ((x + 14) + 3) k), zI t] _ _ _ _ _ _
          refine zT.iconst dX1_on_46 ?_
          refine zT.isub dX1_on_47 ?_
          refine zT.callS (M' := mX1_isIn) [zI t, zI (m ((x + 14) + 3) k), zI ((m ((x + 14) + 3) k + m ((x + 14) + 5) k) - 1)] [] dX1_on_48 kX1_231 rfl rfl (C_X1_isIn (by first | assumption | exact zq_i _ | exact zand_i _ _ | exact zor_i _ _ | exact zxor_i _ _ | exact zN _ | omega) (by first | assumption | exact zq_i _ | exact zand_i _ _ | exact zor_i _ _ | exact zxor_i _ _ | exact zN _ | omega) (by first | assumption | exact zq_i _ | exact zand_i _ _ | exact zor_i _ _ | exact zxor_i _ _ | exact zN _ | omega)) (by decide) (k' := 0) (n' := 0) (by omega) (by omega) (by decide) (zdk (v := some (zI (zq ((m ((x + 14) + 3) k) ≤ t ∧ t ≤ ((m ((x + 14) + 3) k + m ((x + 14) + 5) k) - 1))))) ?_) (fun _ _ _ _ h => h.elim)
          show zT G _ _ _ _ [zI (zq ((m ((x + 14) + 3) k) ≤ t ∧ t ≤ ((m ((x + 14) + 3) k + m ((x + 14) + 5) k) - 1)))] _ _ _ _ _ _
          refine zT.if_eqB (tgt := 68) dX1_on_51 (by decide) (fun c51 => ?_) (fun c51 => ?_)
          · refine zT.iinc 3 dX1_on_68 rfl (by decide) (zpre1 rfl (zcI _)) ?_
            show zT G _ _ _ [zR x, zI t, zI v, zI (k + 1)] _ _ _ _ _ _ _
            refine zT.goto (tgt := 17) dX1_on_71 (by decide) ?_
            exact ih17 _ _ (by first | assumption | exact zq_i _ | exact zand_i _ _ | exact zor_i _ _ | exact zxor_i _ _ | exact zN _ | omega) (by first | assumption | exact zq_i _ | exact zand_i _ _ | exact zor_i _ _ | exact zxor_i _ _ | exact zN _ | omega) (by
                unfold fOn at *
                rw [zfd_s k0, ← hv]
                first
                  | rw [zite_t (by omega), ge.1]
                  | rw [zite_f (by omega)]) (by omega)
          · refine zT.iload_n 2 dX1_on_54 rfl rfl ?_
            refine zT.iconst dX1_on_55 ?_
            refine zT.aload_n 0 dX1_on_56 rfl rfl ?_
            refine zT.getF dX1_on_57 fX1_73 rfl (zPan.k hR.sh) (j := 8) (by decide) rfl (zPan.f8 hR.sh) ?_
            refine zT.getF dX1_on_60 fX1_279 rfl (zPlan.k (zPan.o8 hR.sh)) (j := 0) (by decide) rfl (zPlan.f300 (zPan.o8 hR.sh)) ?_
            refine zT.iload_n 3 dX1_on_63 rfl rfl ?_
            refine zT.iald dX1_on_64 (zPlan.a300 (zPan.o8 hR.sh)) (by first | assumption | exact zq_i _ | exact zand_i _ _ | exact zor_i _ _ | exact zxor_i _ _ | exact zN _ | omega) (by rw [(zPlan.n300 (zPan.o8 hR.sh))]; first | assumption | exact zq_i _ | exact zand_i _ _ | exact zor_i _ _ | exact zxor_i _ _ | exact zN _ | omega) (fun z64 => ?_)
            refine zT.ishl dX1_on_65 (by first | assumption | exact zq_i _ | exact zand_i _ _ | exact zor_i _ _ | exact zxor_i _ _ | exact zN _ | omega) (by first | assumption | exact zq_i _ | exact zand_i _ _ | exact zor_i _ _ | exact zxor_i _ _ | exact zN _ | omega) ?_
            refine zT.ior dX1_on_66 ?_
            refine zT.istore_n 2 dX1_on_67 rfl (by decide) (zpre1 rfl (zcI _)) ?_
            show zT G _ _ _ [zR x, zI t, zI (zor v (1 * 2 ^ (m ((x + 14) + 1) k).toNat)), zI k] _ _ _ _ _ _ _
            refine zT.iinc 3 dX1_on_68 rfl (by decide) (zpre1 rfl (zcI _)) ?_
            show zT G _ _ _ [zR x, zI t, zI (zor v (1 * 2 ^ (m ((x + 14) + 1) k).toNat)), zI (k + 1)] _ _ _ _ _ _ _
            refine zT.goto (tgt := 17) dX1_on_71 (by decide) ?_
            exact ih17 _ _ (by first | assumption | exact zq_i _ | exact zand_i _ _ | exact zor_i _ _ | exact zxor_i _ _ | exact zN _ | omega) (by first | assumption | exact zq_i _ | exact zand_i _ _ | exact zor_i _ _ | exact zxor_i _ _ | exact zN _ | omega) (by
                unfold fOn at *
                rw [zfd_s k0, ← hv]
                first
                  | rw [zite_t (by omega), ge.1]
                  | rw [zite_f (by omega)]) (by omega)
    exact L17 _ _ _ (by first | assumption | exact zq_i _ | exact zand_i _ _ | exact zor_i _ _ | exact zxor_i _ _ | exact zN _ | omega) (by first | assumption | exact zq_i _ | exact zand_i _ _ | exact zor_i _ _ | exact zxor_i _ _ | exact zN _ | omega) (by rfl) (Nat.lt_succ_self _)
  · refine zT.iconst dX1_on_11 ?_
    refine zT.iret dX1_on_12 rfl ?_
    exact ⟨by rw [if_neg (by omega)], rfl, rfl⟩

theorem C_X1_forgotten {G : zG}  {S : zS} {m : zMm} {x : Int} {A : zMm} (hR : rel S m x A)  : zC G mX1_forgotten 2 0 0 [zR x] S m (zDet (some (zI (fForg (aK (A 0 1023) (A 2)) (A 2 58) (aGo (A 2) 58)))) S m) zNX := by
  have hk := hR.vki.1
  have hKi := (hR.ki.2.1).ki hk
  have hKn := hKi.nu
  have hkr := hR.ki.2.1
  have hkf := hkr.2.1
  have hk0 := hk.1
  have hpl := hR.pl
  have hpv := hR.vpl
  have hPl := hpl.pl hpv
  have hPl0 := hPl.1
  have hPl1 := hPl.2.1
  have hgn := hpl.2.1
  refine zC.of [zR x, zU] (by decide) rfl (zEn1 (zcR _) (zEn0 (by simp))) rfl ?_
  refine zT.iconst dX1_forgotten_0 ?_
  refine zT.istore_n 1 dX1_forgotten_1 rfl (by decide) (zpre1 rfl (zcR _)) ?_
  show zT G _ _ _ [zR x, zI 0] _ _ _ _ _ _ _
  have L2 : ∀ (N : Nat) (i : Int), (0 ≤ i) → (i ≤ 2 * (aK (A 0 1023) (A 2)) 5) → (∀ j, 0 ≤ j → j < i → ¬ (0 < (aK (A 0 1023) (A 2)) (8 + 3 * (j / 2) + j % 2) - ahad (aGo (A 2) 58) (j / 2) (j % 2) (A 2 58))) → ((2 * (aK (A 0 1023) (A 2)) 5 - i).toNat) < N → zT G mX1_forgotten 2 2 [zR x, zI i] [] S m 0 0 (zDet (some (zI (fForg (aK (A 0 1023) (A 2)) (A 2 58) (aGo (A 2) 58)))) S m) zNX := by
    intro N
    induction N with
    | zero => intro i i0 i1 hv hN; exact absurd hN (Nat.not_lt_zero _)
    | succ N ih2 =>
      intro i i0 i1 hv hN
      refine zT.iload_n 1 dX1_forgotten_2 rfl rfl ?_
      refine zT.iconst dX1_forgotten_3 ?_
      refine zT.aload_n 0 dX1_forgotten_4 rfl rfl ?_
      refine zT.getR dX1_forgotten_5 fX1_66 rfl (zPan.k hR.sh) (j := 7) (by decide) rfl ?_
      refine zT.getI dX1_forgotten_8 fX1_228 rfl (zKit.k hR.ki.2.1.1) (j := 8) (by decide) rfl (fun z8 => ?_)
      refine zT.imul dX1_forgotten_11 ?_
      refine zT.ic_ge (tgt := 43) dX1_forgotten_12 (by decide) (by first | assumption | exact zq_i _ | exact zand_i _ _ | exact zor_i _ _ | exact zxor_i _ _ | exact zN _ | omega) (by first | assumption | exact zq_i _ | exact zand_i _ _ | exact zor_i _ _ | exact zxor_i _ _ | exact zN _ | omega) (fun c12 => ?_) (fun c12 => ?_)
      · refine zT.iconst dX1_forgotten_43 ?_
        refine zT.iret dX1_forgotten_44 rfl ?_
        exact ⟨by unfold fForg; rw [zfi_f (fun j a b => hv j a (by omega))], rfl, rfl⟩
      · refine zT.aload_n 0 dX1_forgotten_15 rfl rfl ?_
        refine zT.getF dX1_forgotten_16 fX1_73 rfl (zPan.k hR.sh) (j := 8) (by decide) rfl (zPan.f8 hR.sh) ?_
        refine zT.aload_n 0 dX1_forgotten_19 rfl rfl ?_
        refine zT.getR dX1_forgotten_20 fX1_66 rfl (zPan.k hR.sh) (j := 7) (by decide) rfl ?_
        refine zT.iload_n 1 dX1_forgotten_23 rfl rfl ?_
        refine zT.iconst dX1_forgotten_24 ?_
        refine zT.idiv dX1_forgotten_25 (by first | assumption | exact zq_i _ | exact zand_i _ _ | exact zor_i _ _ | exact zxor_i _ _ | exact zN _ | omega) (by first | assumption | exact zq_i _ | exact zand_i _ _ | exact zor_i _ _ | exact zxor_i _ _ | exact zN _ | omega) (by first | assumption | exact zq_i _ | exact zand_i _ _ | exact zor_i _ _ | exact zxor_i _ _ | exact zN _ | omega) (by first | assumption | exact zq_i _ | exact zand_i _ _ | exact zor_i _ _ | exact zxor_i _ _ | exact zN _ | omega) ?_
        refine zT.iload_n 1 dX1_forgotten_26 rfl rfl ?_
        refine zT.iconst dX1_forgotten_27 ?_
        refine zT.irem dX1_forgotten_28 (by first | assumption | exact zq_i _ | exact zand_i _ _ | exact zor_i _ _ | exact zxor_i _ _ | exact zN _ | omega) (by first | assumption | exact zq_i _ | exact zand_i _ _ | exact zor_i _ _ | exact zxor_i _ _ | exact zN _ | omega) (by first | assumption | exact zq_i _ | exact zand_i _ _ | exact zor_i _ _ | exact zxor_i _ _ | exact zN _ | omega) (by first | assumption | exact zq_i _ | exact zand_i _ _ | exact zor_i _ _ | exact zxor_i _ _ | exact zN _ | omega) ?_
        refine zT.callV (M' := mX4_left) (b := (x + 14)) [zR (m x 7), zI (i / 2), zI (i % 2)] [] dX1_forgotten_29 kX1_292 rfl rfl (ci := 3) (r := (RX4, TX4, 6)) rfl (zPlan.k (zPan.o8 hR.sh)) (C_X4_left (zPan.o8 hR.sh) hPl hR.ki.2.1.1 (by first | assumption | exact zq_i _ | exact zand_i _ _ | exact zor_i _ _ | exact zxor_i _ _ | exact zN _ | omega) (by first | assumption | exact zq_i _ | exact zand_i _ _ | exact zor_i _ _ | exact zxor_i _ _ | exact zN _ | omega)) (by decide) (k' := 0) (n' := 0) (by omega) (by omega) (by decide) (zdk (v := some (zI (m ((m x 7) + 3) (2 * (i / 2) + (i % 2)) - zhad m (x + 14) (i / 2) (i % 2) (m (x + 14) 305)))) ?_) (fun _ _ _ _ h => h.elim)
        show zT G _ _ _ _ [zI (m ((m x 7) + 3) (2 * (i / 2) + (i % 2)) - zhad m (x + 14) (i / 2) (i % 2) (m (x + 14) 305))] _ _ _ _ _ _
        have hsl := hkr.2.2.1 (i / 2) (by omega) (by omega)
        have hkv := hk.2.1 (i / 2) (by omega) (by omega)
        have hmi : m (m x 7 + 3) (2 * (i / 2) + i % 2) = (aK (A 0 1023) (A 2)) (8 + 3 * (i / 2) + i % 2) := by
          rcases Int.emod_two_eq i with e | e
          · rw [e, Int.add_zero]
            exact hsl.1
          · rw [e]
            exact hsl.2.1
        have hza := zhad_a (s := i / 2) (c := i % 2) hpl (Int.le_refl _)
        have hzb := ahad_b (s := i / 2) (c := i % 2) hpv (by omega) (Int.le_refl _)
        have hkc : 0 ≤ (aK (A 0 1023) (A 2)) (8 + 3 * (i / 2) + i % 2) ∧ (aK (A 0 1023) (A 2)) (8 + 3 * (i / 2) + i % 2) ≤ 20 := by
          rcases Int.emod_two_eq i with e | e
          · rw [e]
            omega
          · rw [e]
            omega
        have hza2 : zhad m (x + 14) (i / 2) (i % 2) (m (x + 14) 305) = ahad (aGo (A 2) 58) (i / 2) (i % 2) (A 2 58) := by
          rw [hgn]
          exact hza
        refine zT.if_le (tgt := 37) dX1_forgotten_32 (by decide) (by first | assumption | exact zq_i _ | exact zand_i _ _ | exact zor_i _ _ | exact zxor_i _ _ | exact zN _ | omega) (fun c32 => ?_) (fun c32 => ?_)
        · refine zT.iinc 1 dX1_forgotten_37 rfl (by decide) (zpre1 rfl (zcR _)) ?_
          show zT G _ _ _ [zR x, zI (i + 1)] _ _ _ _ _ _ _
          refine zT.goto (tgt := 2) dX1_forgotten_40 (by decide) ?_
          exact ih2 _ (by first | assumption | exact zq_i _ | exact zand_i _ _ | exact zor_i _ _ | exact zxor_i _ _ | exact zN _ | omega) (by first | assumption | exact zq_i _ | exact zand_i _ _ | exact zor_i _ _ | exact zxor_i _ _ | exact zN _ | omega) (by exact zal_s hv (by omega)) (by omega)
        · refine zT.iload_n 1 dX1_forgotten_35 rfl rfl ?_
          refine zT.iret dX1_forgotten_36 rfl ?_
          exact ⟨by unfold fForg; rw [zfi_t hv (by omega) (by omega) (by omega)], rfl, rfl⟩
  exact L2 _ _ (by first | assumption | exact zq_i _ | exact zand_i _ _ | exact zor_i _ _ | exact zxor_i _ _ | exact zN _ | omega) (by first | assumption | exact zq_i _ | exact zand_i _ _ | exact zor_i _ _ | exact zxor_i _ _ | exact zN _ | omega) (by exact zal_0) (Nat.lt_succ_self _)

theorem C_X1_idle {G : zG}  {S : zS} {m : zMm} {x : Int} {A : zMm} (hR : rel S m x A) {p : Int} (hp : zi p) : zC G mX1_idle 2 0 0 [zR x, zI p] S m (zDet (some (zI (if 0 ≤ p ∧ p < (aK (A 0 1023) (A 2)) 0 then fIdle (A 2 58) (aGo (A 2) 58) p (aends (aGo (A 2) 58) (A 2 58)) else -1))) S m) zNX := by
  have hk := hR.vki.1
  have hKi := (hR.ki.2.1).ki hk
  have hKn := hKi.nu
  have hkr := hR.ki.2.1
  have hkf := hkr.2.1
  have hk0 := hk.1
  have hpl := hR.pl
  have hpv := hR.vpl
  have hPl := hpl.pl hpv
  have hPl0 := hPl.1
  have hPl1 := hPl.2.1
  have hgn := hpl.2.1
  have heb := aends_b hpv (Int.le_refl _)
  have hze2 : zends m (x + 14) (m (x + 14) 305) = aends (aGo (A 2) 58) (A 2 58) := by rw [hgn]; exact zends_a hpl (Int.le_refl _)
  refine zC.of [zR x, zI p, zU, zU] (by decide) rfl (zEn1 (zcR _) (zEn1 (zcI _) (zEn0 (by simp)))) rfl ?_
  refine zT.iload_n 1 dX1_idle_0 rfl rfl ?_
  refine zT.iconst dX1_idle_1 ?_
  refine zT.aload_n 0 dX1_idle_2 rfl rfl ?_
  refine zT.getR dX1_idle_3 fX1_66 rfl (zPan.k hR.sh) (j := 7) (by decide) rfl ?_
  refine zT.getI dX1_idle_6 fX1_332 rfl (zKit.k hR.ki.2.1.1) (j := 11) (by decide) rfl (fun z6 => ?_)
  refine zT.iconst dX1_idle_9 ?_
  refine zT.isub dX1_idle_10 ?_
  refine zT.callS (M' := mX1_isIn) [zI p, zI 0, zI ((m (m x 7) 211) - 1)] [] dX1_idle_11 kX1_231 rfl rfl (C_X1_isIn (by first | assumption | exact zq_i _ | exact zand_i _ _ | exact zor_i _ _ | exact zxor_i _ _ | exact zN _ | omega) (by first | assumption | exact zq_i _ | exact zand_i _ _ | exact zor_i _ _ | exact zxor_i _ _ | exact zN _ | omega) (by first | assumption | exact zq_i _ | exact zand_i _ _ | exact zor_i _ _ | exact zxor_i _ _ | exact zN _ | omega)) (by decide) (k' := 0) (n' := 0) (by omega) (by omega) (by decide) (zdk (v := some (zI (zq (0 ≤ p ∧ p ≤ ((m (m x 7) 211) - 1))))) ?_) (fun _ _ _ _ h => h.elim)
  show zT G _ _ _ _ [zI (zq (0 ≤ p ∧ p ≤ ((m (m x 7) 211) - 1)))] _ _ _ _ _ _
  refine zT.if_neB (tgt := 19) dX1_idle_14 (by decide) (fun c14 => ?_) (fun c14 => ?_)
  · refine zT.iconst dX1_idle_19 ?_
    refine zT.istore_n 2 dX1_idle_20 rfl (by decide) (zpre1 rfl (zcI _)) ?_
    show zT G _ _ _ [zR x, zI p, zI 0, zU] _ _ _ _ _ _ _
    refine zT.iconst dX1_idle_21 ?_
    refine zT.istore_n 3 dX1_idle_22 rfl (by decide) (zpre1 rfl (zcI _)) ?_
    show zT G _ _ _ [zR x, zI p, zI 0, zI 0] _ _ _ _ _ _ _
    have L23 : ∀ (N : Nat) (t : Int) (v : Int), (0 ≤ t) → (t ≤ aends (aGo (A 2) 58) (A 2 58)) → (v = fIdle (A 2 58) (aGo (A 2) 58) p t) → (0 ≤ v ∧ v ≤ t) → ((aends (aGo (A 2) 58) (A 2 58) - t).toNat) < N → zT G mX1_idle 2 23 [zR x, zI p, zI v, zI t] [] S m 0 0 (zDet (some (zI (if 0 ≤ p ∧ p < (aK (A 0 1023) (A 2)) 0 then fIdle (A 2 58) (aGo (A 2) 58) p (aends (aGo (A 2) 58) (A 2 58)) else -1))) S m) zNX := by
      intro N
      induction N with
      | zero => intro t v t0 t1 hv hvb hN; exact absurd hN (Nat.not_lt_zero _)
      | succ N ih23 =>
        intro t v t0 t1 hv hvb hN
        refine zT.iload_n 3 dX1_idle_23 rfl rfl ?_
        refine zT.aload_n 0 dX1_idle_24 rfl rfl ?_
        refine zT.getF dX1_idle_25 fX1_73 rfl (zPan.k hR.sh) (j := 8) (by decide) rfl (zPan.f8 hR.sh) ?_
        refine zT.callV (M' := mX4_ends) (b := (x + 14)) [] [zI t] dX1_idle_28 kX1_296 rfl rfl (ci := 3) (r := (RX4, TX4, 6)) rfl (zPlan.k (zPan.o8 hR.sh)) (C_X4_ends (zPan.o8 hR.sh) hPl) (by decide) (k' := 0) (n' := 0) (by omega) (by omega) (by simp only [List.map, zcI, zcJ, zcR, List.sum_cons, List.sum_nil]; decide) (zdk (v := some (zI (zends m (x + 14) (m (x + 14) 305)))) ?_) (fun _ _ _ _ h => h.elim)
        show zT G _ _ _ _ [zI (zends m (x + 14) (m (x + 14) 305)), zI t] _ _ _ _ _ _
        refine zT.ic_ge (tgt := 60) dX1_idle_31 (by decide) (by first | assumption | exact zq_i _ | exact zand_i _ _ | exact zor_i _ _ | exact zxor_i _ _ | exact zN _ | omega) (by first | assumption | exact zq_i _ | exact zand_i _ _ | exact zor_i _ _ | exact zxor_i _ _ | exact zN _ | omega) (fun c31 => ?_) (fun c31 => ?_)
        · refine zT.iload_n 2 dX1_idle_60 rfl rfl ?_
          refine zT.iret dX1_idle_61 rfl ?_
          exact ⟨by rw [if_pos (by omega), hv, show t = aends (aGo (A 2) 58) (A 2 58) by omega], rfl, rfl⟩
        · have hex : (∃ j, 0 ≤ j ∧ j < m (x + 14) 305 ∧ m (x + 14 + 4) j = p ∧ m (x + 14 + 3) j ≤ t ∧ t < m (x + 14 + 3) j + m (x + 14 + 5) j) ↔ (∃ j, 0 ≤ j ∧ j < A 2 58 ∧ aGo (A 2) 58 j 3 = p ∧ aGo (A 2) 58 j 2 ≤ t ∧ t < aGo (A 2) 58 j 2 + aGo (A 2) 58 j 4) := by
            constructor
            · rintro ⟨j, j0, j1, j2, j3, j4⟩
              have ge := hpl.2.2 j j0 (by omega)
              exact ⟨j, j0, by omega, by omega, by omega, by omega⟩
            · rintro ⟨j, j0, j1, j2, j3, j4⟩
              have ge := hpl.2.2 j j0 (by omega)
              exact ⟨j, j0, by omega, by omega, by omega, by omega⟩
          refine zT.iload_n 2 dX1_idle_34 rfl rfl ?_
          refine zT.aload_n 0 dX1_idle_35 rfl rfl ?_
          refine zT.getF dX1_idle_36 fX1_73 rfl (zPan.k hR.sh) (j := 8) (by decide) rfl (zPan.f8 hR.sh) ?_
          refine zT.iload_n 1 dX1_idle_39 rfl rfl ?_
          refine zT.iload_n 3 dX1_idle_40 rfl rfl ?_
          refine zT.callV (M' := mX4_isTaken) (b := (x + 14)) [zI p, zI t] [zI v] dX1_idle_41 kX1_348 rfl rfl (ci := 3) (r := (RX4, TX4, 6)) rfl (zPlan.k (zPan.o8 hR.sh)) (C_X4_isTaken (zPan.o8 hR.sh) hPl (by first | assumption | exact zq_i _ | exact zand_i _ _ | exact zor_i _ _ | exact zxor_i _ _ | exact zN _ | omega) (by first | assumption | exact zq_i _ | exact zand_i _ _ | exact zor_i _ _ | exact zxor_i _ _ | exact zN _ | omega)) (by decide) (k' := 0) (n' := 0) (by omega) (by omega) (by simp only [List.map, zcI, zcJ, zcR, List.sum_cons, List.sum_nil]; decide) (zdk (v := some (zI (zq (∃ j, 0 ≤ j ∧ j < m (x + 14) 305 ∧ m ((x + 14) + 4) j = p ∧ m ((x + 14) + 3) j ≤ t ∧ t < m ((x + 14) + 3) j + m ((x + 14) + 5) j)))) ?_) (fun _ _ _ _ h => h.elim)
          show zT G _ _ _ _ [zI (zq (∃ j, 0 ≤ j ∧ j < m (x + 14) 305 ∧ m ((x + 14) + 4) j = p ∧ m ((x + 14) + 3) j ≤ t ∧ t < m ((x + 14) + 3) j + m ((x + 14) + 5) j)), zI v] _ _ _ _ _ _
          refine zT.if_eqB (tgt := 51) dX1_idle_44 (by decide) (fun c44 => ?_) (fun c44 => ?_)
          · refine zT.iconst dX1_idle_51 ?_
            refine zT.iadd dX1_idle_52 ?_
            refine zT.istore_n 2 dX1_idle_53 rfl (by decide) (zpre1 rfl (zcI _)) ?_
            show zT G _ _ _ [zR x, zI p, zI (v + 1), zI t] _ _ _ _ _ _ _
            refine zT.iinc 3 dX1_idle_54 rfl (by decide) (zpre1 rfl (zcI _)) ?_
            show zT G _ _ _ [zR x, zI p, zI (v + 1), zI (t + 1)] _ _ _ _ _ _ _
            refine zT.goto (tgt := 23) dX1_idle_57 (by decide) ?_
            exact ih23 _ _ (by first | assumption | exact zq_i _ | exact zand_i _ _ | exact zor_i _ _ | exact zxor_i _ _ | exact zN _ | omega) (by clear hex c44; omega) (by
                unfold fIdle at *
                rw [zs_s t0, ← hv]
                first | rw [zq_t (by rw [← hex]; assumption)] | rw [zq_f (by rw [← hex]; assumption)]
                omega) (by first | assumption | exact zq_i _ | exact zand_i _ _ | exact zor_i _ _ | exact zxor_i _ _ | exact zN _ | omega) (by clear hex c44; omega)
          · refine zT.iconst dX1_idle_47 ?_
            refine zT.goto (tgt := 52) dX1_idle_48 (by decide) ?_
            refine zT.iadd dX1_idle_52 ?_
            refine zT.istore_n 2 dX1_idle_53 rfl (by decide) (zpre1 rfl (zcI _)) ?_
            show zT G _ _ _ [zR x, zI p, zI (v + 0), zI t] _ _ _ _ _ _ _
            refine zT.iinc 3 dX1_idle_54 rfl (by decide) (zpre1 rfl (zcI _)) ?_
            show zT G _ _ _ [zR x, zI p, zI (v + 0), zI (t + 1)] _ _ _ _ _ _ _
            refine zT.goto (tgt := 23) dX1_idle_57 (by decide) ?_
            exact ih23 _ _ (by first | assumption | exact zq_i _ | exact zand_i _ _ | exact zor_i _ _ | exact zxor_i _ _ | exact zN _ | omega) (by clear hex c44; omega) (by
                unfold fIdle at *
                rw [zs_s t0, ← hv]
                first | rw [zq_t (by rw [← hex]; assumption)] | rw [zq_f (by rw [← hex]; assumption)]
                omega) (by first | assumption | exact zq_i _ | exact zand_i _ _ | exact zor_i _ _ | exact zxor_i _ _ | exact zN _ | omega) (by clear hex c44; omega)
    exact L23 _ _ _ (by first | assumption | exact zq_i _ | exact zand_i _ _ | exact zor_i _ _ | exact zxor_i _ _ | exact zN _ | omega) (by first | assumption | exact zq_i _ | exact zand_i _ _ | exact zor_i _ _ | exact zxor_i _ _ | exact zN _ | omega) (by rfl) (by first | assumption | exact zq_i _ | exact zand_i _ _ | exact zor_i _ _ | exact zxor_i _ _ | exact zN _ | omega) (Nat.lt_succ_self _)
  · refine zT.iconst dX1_idle_17 ?_
    refine zT.iret dX1_idle_18 rfl ?_
    exact ⟨by rw [if_neg (by omega)], rfl, rfl⟩

theorem C_X1_byteAt {G : zG}  {S : zS} {m : zMm} {x : Int} {A : zMm} (hR : rel S m x A) {i : Int} (hi : zi i) : zC G mX1_byteAt 1 0 0 [zR x, zI i] S m (zDet (some (zI (if 0 ≤ i ∧ i < A 0 1029 then A 11 i else -1))) S m) zNX := by
  have ht := hR.tx
  have htv := hR.vtx
  have t1 := ht.1
  have t2 := htv.1
  refine zC.of [zR x, zI i] (by decide) rfl (zEn1 (zcR _) (zEn1 (zcI _) (zEn0 (by simp)))) rfl ?_
  refine zT.iload_n 1 dX1_byteAt_0 rfl rfl ?_
  refine zT.iconst dX1_byteAt_1 ?_
  refine zT.aload_n 0 dX1_byteAt_2 rfl rfl ?_
  refine zT.getI dX1_byteAt_3 fX1_307 rfl (zPan.k hR.sh) (j := 15) (by decide) rfl (fun z3 => ?_)
  refine zT.iconst dX1_byteAt_6 ?_
  refine zT.isub dX1_byteAt_7 ?_
  refine zT.callS (M' := mX1_isIn) [zI i, zI 0, zI ((m x 15) - 1)] [] dX1_byteAt_8 kX1_231 rfl rfl (C_X1_isIn (by first | assumption | exact zq_i _ | exact zand_i _ _ | exact zor_i _ _ | exact zxor_i _ _ | exact zN _ | omega) (by first | assumption | exact zq_i _ | exact zand_i _ _ | exact zor_i _ _ | exact zxor_i _ _ | exact zN _ | omega) (by first | assumption | exact zq_i _ | exact zand_i _ _ | exact zor_i _ _ | exact zxor_i _ _ | exact zN _ | omega)) (by decide) (k' := 0) (n' := 0) (by omega) (by omega) (by decide) (zdk (v := some (zI (zq (0 ≤ i ∧ i ≤ ((m x 15) - 1))))) ?_) (fun _ _ _ _ h => h.elim)
  show zT G _ _ _ _ [zI (zq (0 ≤ i ∧ i ≤ ((m x 15) - 1)))] _ _ _ _ _ _
  refine zT.if_eqB (tgt := 23) dX1_byteAt_11 (by decide) (fun c11 => ?_) (fun c11 => ?_)
  · refine zT.iconst dX1_byteAt_23 ?_
    refine zT.iret dX1_byteAt_24 rfl ?_
    refine ⟨?_, rfl, rfl⟩
    first
      | rw [if_neg (by have := ht.1; omega)]
      | (have t1 := ht.1
         rw [if_pos (by omega), ← ht.2 i (by omega) (by omega)])
  · refine zT.aload_n 0 dX1_byteAt_14 rfl rfl ?_
    refine zT.getF dX1_byteAt_15 fX1_100 rfl (zPan.k hR.sh) (j := 14) (by decide) rfl (zPan.f14 hR.sh) ?_
    refine zT.iload_n 1 dX1_byteAt_18 rfl rfl ?_
    refine zT.bald dX1_byteAt_19 (zPan.a14 hR.sh) (by first | assumption | exact zq_i _ | exact zand_i _ _ | exact zor_i _ _ | exact zxor_i _ _ | exact zN _ | omega) (by rw [(zPan.n14 hR.sh)]; first | assumption | exact zq_i _ | exact zand_i _ _ | exact zor_i _ _ | exact zxor_i _ _ | exact zN _ | omega) (fun z19 => ?_)
    refine zT.goto (tgt := 24) dX1_byteAt_20 (by decide) ?_
    refine zT.iret dX1_byteAt_24 rfl ?_
    refine ⟨?_, rfl, rfl⟩
    first
      | rw [if_neg (by have := ht.1; omega)]
      | (have t1 := ht.1
         rw [if_pos (by omega), ← ht.2 i (by omega) (by omega)])

theorem C_X1_servedAt {G : zG}  {S : zS} {m : zMm} {x : Int} {A : zMm} (hR : rel S m x A) {i : Int} (hi : zi i) : zC G mX1_servedAt 1 0 0 [zR x, zI i] S m (zDet (some (zI (if 0 ≤ i ∧ i < A 0 1049 then A 29 i else -1))) S m) zNX := by
  have ht := hR.sv
  have htv := hR.vsv
  unfold vSv at htv
  have h1 := ht.1
  refine zC.of [zR x, zI i] (by decide) rfl (zEn1 (zcR _) (zEn1 (zcI _) (zEn0 (by simp)))) rfl ?_
  refine zT.iload_n 1 dX1_servedAt_0 rfl rfl ?_
  refine zT.iconst dX1_servedAt_1 ?_
  refine zT.aload_n 0 dX1_servedAt_2 rfl rfl ?_
  refine zT.getI dX1_servedAt_3 fX1_159 rfl (zPan.k hR.sh) (j := 32) (by decide) rfl (fun z3 => ?_)
  refine zT.iconst dX1_servedAt_6 ?_
  refine zT.isub dX1_servedAt_7 ?_
  refine zT.callS (M' := mX1_isIn) [zI i, zI 0, zI ((m x 32) - 1)] [] dX1_servedAt_8 kX1_231 rfl rfl (C_X1_isIn (by first | assumption | exact zq_i _ | exact zand_i _ _ | exact zor_i _ _ | exact zxor_i _ _ | exact zN _ | omega) (by first | assumption | exact zq_i _ | exact zand_i _ _ | exact zor_i _ _ | exact zxor_i _ _ | exact zN _ | omega) (by first | assumption | exact zq_i _ | exact zand_i _ _ | exact zor_i _ _ | exact zxor_i _ _ | exact zN _ | omega)) (by decide) (k' := 0) (n' := 0) (by omega) (by omega) (by decide) (zdk (v := some (zI (zq (0 ≤ i ∧ i ≤ ((m x 32) - 1))))) ?_) (fun _ _ _ _ h => h.elim)
  show zT G _ _ _ _ [zI (zq (0 ≤ i ∧ i ≤ ((m x 32) - 1)))] _ _ _ _ _ _
  refine zT.if_eqB (tgt := 23) dX1_servedAt_11 (by decide) (fun c11 => ?_) (fun c11 => ?_)
  · refine zT.iconst dX1_servedAt_23 ?_
    refine zT.iret dX1_servedAt_24 rfl ?_
    refine ⟨?_, rfl, rfl⟩
    first
      | rw [if_neg (by omega)]
      | rw [if_pos (by omega), ← ht.2 i (by omega) (by omega)]
  · refine zT.aload_n 0 dX1_servedAt_14 rfl rfl ?_
    refine zT.getF dX1_servedAt_15 fX1_156 rfl (zPan.k hR.sh) (j := 31) (by decide) rfl (zPan.f31 hR.sh) ?_
    refine zT.iload_n 1 dX1_servedAt_18 rfl rfl ?_
    refine zT.iald dX1_servedAt_19 (zPan.a31 hR.sh) (by first | assumption | exact zq_i _ | exact zand_i _ _ | exact zor_i _ _ | exact zxor_i _ _ | exact zN _ | omega) (by rw [(zPan.n31 hR.sh)]; first | assumption | exact zq_i _ | exact zand_i _ _ | exact zor_i _ _ | exact zxor_i _ _ | exact zN _ | omega) (fun z19 => ?_)
    refine zT.goto (tgt := 24) dX1_servedAt_20 (by decide) ?_
    refine zT.iret dX1_servedAt_24 rfl ?_
    refine ⟨?_, rfl, rfl⟩
    first
      | rw [if_neg (by omega)]
      | rw [if_pos (by omega), ← ht.2 i (by omega) (by omega)]

theorem C_X1_pans {G : zG}  {S : zS} {m : zMm} {x : Int} {A : zMm} (hR : rel S m x A) {i : Int} (hi : zi i) : zC G mX1_pans 1 0 0 [zR x, zI i] S m (zDet (some (zI (if 0 ≤ i ∧ i < A 0 1053 then A 32 i else -1))) S m) zNX := by
  have ht := hR.pn
  have htv := hR.vpn
  unfold vPn at htv
  have h1 := ht.1
  refine zC.of [zR x, zI i] (by decide) rfl (zEn1 (zcR _) (zEn1 (zcI _) (zEn0 (by simp)))) rfl ?_
  refine zT.iload_n 1 dX1_pans_0 rfl rfl ?_
  refine zT.iconst dX1_pans_1 ?_
  refine zT.aload_n 0 dX1_pans_2 rfl rfl ?_
  refine zT.getI dX1_pans_3 fX1_168 rfl (zPan.k hR.sh) (j := 35) (by decide) rfl (fun z3 => ?_)
  refine zT.iconst dX1_pans_6 ?_
  refine zT.isub dX1_pans_7 ?_
  refine zT.callS (M' := mX1_isIn) [zI i, zI 0, zI ((m x 35) - 1)] [] dX1_pans_8 kX1_231 rfl rfl (C_X1_isIn (by first | assumption | exact zq_i _ | exact zand_i _ _ | exact zor_i _ _ | exact zxor_i _ _ | exact zN _ | omega) (by first | assumption | exact zq_i _ | exact zand_i _ _ | exact zor_i _ _ | exact zxor_i _ _ | exact zN _ | omega) (by first | assumption | exact zq_i _ | exact zand_i _ _ | exact zor_i _ _ | exact zxor_i _ _ | exact zN _ | omega)) (by decide) (k' := 0) (n' := 0) (by omega) (by omega) (by decide) (zdk (v := some (zI (zq (0 ≤ i ∧ i ≤ ((m x 35) - 1))))) ?_) (fun _ _ _ _ h => h.elim)
  show zT G _ _ _ _ [zI (zq (0 ≤ i ∧ i ≤ ((m x 35) - 1)))] _ _ _ _ _ _
  refine zT.if_eqB (tgt := 23) dX1_pans_11 (by decide) (fun c11 => ?_) (fun c11 => ?_)
  · refine zT.iconst dX1_pans_23 ?_
    refine zT.iret dX1_pans_24 rfl ?_
    refine ⟨?_, rfl, rfl⟩
    first
      | rw [if_neg (by omega)]
      | rw [if_pos (by omega), ← ht.2 i (by omega) (by omega)]
  · refine zT.aload_n 0 dX1_pans_14 rfl rfl ?_
    refine zT.getF dX1_pans_15 fX1_162 rfl (zPan.k hR.sh) (j := 33) (by decide) rfl (zPan.f33 hR.sh) ?_
    refine zT.iload_n 1 dX1_pans_18 rfl rfl ?_
    refine zT.iald dX1_pans_19 (zPan.a33 hR.sh) (by first | assumption | exact zq_i _ | exact zand_i _ _ | exact zor_i _ _ | exact zxor_i _ _ | exact zN _ | omega) (by rw [(zPan.n33 hR.sh)]; first | assumption | exact zq_i _ | exact zand_i _ _ | exact zor_i _ _ | exact zxor_i _ _ | exact zN _ | omega) (fun z19 => ?_)
    refine zT.goto (tgt := 24) dX1_pans_20 (by decide) ?_
    refine zT.iret dX1_pans_24 rfl ?_
    refine ⟨?_, rfl, rfl⟩
    first
      | rw [if_neg (by omega)]
      | rw [if_pos (by omega), ← ht.2 i (by omega) (by omega)]

theorem C_X1_count {G : zG}  {S : zS} {m : zMm} {x : Int} {A : zMm} (hR : rel S m x A) {w : Int} (hw : zi w) : zC G mX1_count 0 0 0 [zR x, zI w] S m (zDet (some (zI (if 0 ≤ w ∧ w ≤ 2 then (aK (A 0 1023) (A 2)) w else if 3 ≤ w ∧ w ≤ 5 then (aK (A 0 1023) (A 2)) (w + 2) else if w = 6 then A 2 58 else if w = 7 then A 0 1002 else -1))) S m) zNX := by
  have hk := hR.vki.1
  have hKi := (hR.ki.2.1).ki hk
  have hKn := hKi.nu
  have hkr := hR.ki.2.1
  have hkf := hkr.2.1
  have hk0 := hk.1
  have hpl := hR.pl
  have hpv := hR.vpl
  have hPl := hpl.pl hpv
  have hPl0 := hPl.1
  have hPl1 := hPl.2.1
  have hgn := hpl.2.1
  have ht := hR.tp.1
  refine zC.of [zR x, zI w] (by decide) rfl (zEn1 (zcR _) (zEn1 (zcI _) (zEn0 (by simp)))) rfl ?_
  refine zT.iload_n 1 dX1_count_0 rfl rfl ?_
  refine zT.tsw (td := 109) [48, 56, 64, 72, 80, 88, 96, 104] dX1_count_1 (by first | assumption | exact zq_i _ | exact zand_i _ _ | exact zor_i _ _ | exact zxor_i _ _ | exact zN _ | omega) rfl (by decide) (fun c1 => ?_) ⟨by decide, fun c1 => ?_, by decide, fun c1 => ?_, by decide, fun c1 => ?_, by decide, fun c1 => ?_, by decide, fun c1 => ?_, by decide, fun c1 => ?_, by decide, fun c1 => ?_, by decide, fun c1 => ?_, trivial⟩
  · refine zT.iconst dX1_count_109 ?_
    refine zT.iret dX1_count_110 rfl ?_
    refine ⟨?_, rfl, rfl⟩
    congr 2
    first
      | (have ew : w = 0 := by omega
         subst ew
         simp only [Int.le_refl, true_and, if_pos (show (0 : Int) ≤ 2 by decide)]
         omega)
      | (repeat' split
         all_goals first
           | omega
           | (exfalso; omega)
           | (have ew : w = 1 := by omega
              subst ew
              omega)
           | (have ew : w = 2 := by omega
              subst ew
              omega)
           | (have ew : w = 3 := by omega
              subst ew
              exact hkf.2.2.2.2.2.1)
           | (have ew : w = 4 := by omega
              subst ew
              exact hkf.2.2.2.2.2.2.1)
           | (have ew : w = 5 := by omega
              subst ew
              exact hkf.2.2.2.2.2.2.2))
  · refine zT.aload_n 0 dX1_count_48 rfl rfl ?_
    refine zT.getR dX1_count_49 fX1_66 rfl (zPan.k hR.sh) (j := 7) (by decide) rfl ?_
    refine zT.getI dX1_count_52 fX1_332 rfl (zKit.k hR.ki.2.1.1) (j := 11) (by decide) rfl (fun z52 => ?_)
    refine zT.iret dX1_count_55 rfl ?_
    refine ⟨?_, rfl, rfl⟩
    congr 2
    first
      | (have ew : w = 0 := by omega
         subst ew
         simp only [Int.le_refl, true_and, if_pos (show (0 : Int) ≤ 2 by decide)]
         omega)
      | (repeat' split
         all_goals first
           | omega
           | (exfalso; omega)
           | (have ew : w = 1 := by omega
              subst ew
              omega)
           | (have ew : w = 2 := by omega
              subst ew
              omega)
           | (have ew : w = 3 := by omega
              subst ew
              exact hkf.2.2.2.2.2.1)
           | (have ew : w = 4 := by omega
              subst ew
              exact hkf.2.2.2.2.2.2.1)
           | (have ew : w = 5 := by omega
              subst ew
              exact hkf.2.2.2.2.2.2.2))
  · refine zT.aload_n 0 dX1_count_56 rfl rfl ?_
    refine zT.getR dX1_count_57 fX1_66 rfl (zPan.k hR.sh) (j := 7) (by decide) rfl ?_
    refine zT.getI dX1_count_60 fX1_370 rfl (zKit.k hR.ki.2.1.1) (j := 12) (by decide) rfl (fun z60 => ?_)
    refine zT.iret dX1_count_63 rfl ?_
    refine ⟨?_, rfl, rfl⟩
    congr 2
    first
      | (have ew : w = 0 := by omega
         subst ew
         simp only [Int.le_refl, true_and, if_pos (show (0 : Int) ≤ 2 by decide)]
         omega)
      | (repeat' split
         all_goals first
           | omega
           | (exfalso; omega)
           | (have ew : w = 1 := by omega
              subst ew
              omega)
           | (have ew : w = 2 := by omega
              subst ew
              omega)
           | (have ew : w = 3 := by omega
              subst ew
              exact hkf.2.2.2.2.2.1)
           | (have ew : w = 4 := by omega
              subst ew
              exact hkf.2.2.2.2.2.2.1)
           | (have ew : w = 5 := by omega
              subst ew
              exact hkf.2.2.2.2.2.2.2))
  · refine zT.aload_n 0 dX1_count_64 rfl rfl ?_
    refine zT.getR dX1_count_65 fX1_66 rfl (zPan.k hR.sh) (j := 7) (by decide) rfl ?_
    refine zT.getI dX1_count_68 fX1_422 rfl (zKit.k hR.ki.2.1.1) (j := 13) (by decide) rfl (fun z68 => ?_)
    refine zT.iret dX1_count_71 rfl ?_
    refine ⟨?_, rfl, rfl⟩
    congr 2
    first
      | (have ew : w = 0 := by omega
         subst ew
         simp only [Int.le_refl, true_and, if_pos (show (0 : Int) ≤ 2 by decide)]
         omega)
      | (repeat' split
         all_goals first
           | omega
           | (exfalso; omega)
           | (have ew : w = 1 := by omega
              subst ew
              omega)
           | (have ew : w = 2 := by omega
              subst ew
              omega)
           | (have ew : w = 3 := by omega
              subst ew
              exact hkf.2.2.2.2.2.1)
           | (have ew : w = 4 := by omega
              subst ew
              exact hkf.2.2.2.2.2.2.1)
           | (have ew : w = 5 := by omega
              subst ew
              exact hkf.2.2.2.2.2.2.2))
  · refine zT.aload_n 0 dX1_count_72 rfl rfl ?_
    refine zT.getR dX1_count_73 fX1_66 rfl (zPan.k hR.sh) (j := 7) (by decide) rfl ?_
    refine zT.getI dX1_count_76 fX1_228 rfl (zKit.k hR.ki.2.1.1) (j := 8) (by decide) rfl (fun z76 => ?_)
    refine zT.iret dX1_count_79 rfl ?_
    refine ⟨?_, rfl, rfl⟩
    congr 2
    first
      | (have ew : w = 0 := by omega
         subst ew
         simp only [Int.le_refl, true_and, if_pos (show (0 : Int) ≤ 2 by decide)]
         omega)
      | (repeat' split
         all_goals first
           | omega
           | (exfalso; omega)
           | (have ew : w = 1 := by omega
              subst ew
              omega)
           | (have ew : w = 2 := by omega
              subst ew
              omega)
           | (have ew : w = 3 := by omega
              subst ew
              exact hkf.2.2.2.2.2.1)
           | (have ew : w = 4 := by omega
              subst ew
              exact hkf.2.2.2.2.2.2.1)
           | (have ew : w = 5 := by omega
              subst ew
              exact hkf.2.2.2.2.2.2.2))
  · refine zT.aload_n 0 dX1_count_80 rfl rfl ?_
    refine zT.getR dX1_count_81 fX1_66 rfl (zPan.k hR.sh) (j := 7) (by decide) rfl ?_
    refine zT.getI dX1_count_84 fX1_249 rfl (zKit.k hR.ki.2.1.1) (j := 9) (by decide) rfl (fun z84 => ?_)
    refine zT.iret dX1_count_87 rfl ?_
    refine ⟨?_, rfl, rfl⟩
    congr 2
    first
      | (have ew : w = 0 := by omega
         subst ew
         simp only [Int.le_refl, true_and, if_pos (show (0 : Int) ≤ 2 by decide)]
         omega)
      | (repeat' split
         all_goals first
           | omega
           | (exfalso; omega)
           | (have ew : w = 1 := by omega
              subst ew
              omega)
           | (have ew : w = 2 := by omega
              subst ew
              omega)
           | (have ew : w = 3 := by omega
              subst ew
              exact hkf.2.2.2.2.2.1)
           | (have ew : w = 4 := by omega
              subst ew
              exact hkf.2.2.2.2.2.2.1)
           | (have ew : w = 5 := by omega
              subst ew
              exact hkf.2.2.2.2.2.2.2))
  · refine zT.aload_n 0 dX1_count_88 rfl rfl ?_
    refine zT.getR dX1_count_89 fX1_66 rfl (zPan.k hR.sh) (j := 7) (by decide) rfl ?_
    refine zT.getI dX1_count_92 fX1_258 rfl (zKit.k hR.ki.2.1.1) (j := 10) (by decide) rfl (fun z92 => ?_)
    refine zT.iret dX1_count_95 rfl ?_
    refine ⟨?_, rfl, rfl⟩
    congr 2
    first
      | (have ew : w = 0 := by omega
         subst ew
         simp only [Int.le_refl, true_and, if_pos (show (0 : Int) ≤ 2 by decide)]
         omega)
      | (repeat' split
         all_goals first
           | omega
           | (exfalso; omega)
           | (have ew : w = 1 := by omega
              subst ew
              omega)
           | (have ew : w = 2 := by omega
              subst ew
              omega)
           | (have ew : w = 3 := by omega
              subst ew
              exact hkf.2.2.2.2.2.1)
           | (have ew : w = 4 := by omega
              subst ew
              exact hkf.2.2.2.2.2.2.1)
           | (have ew : w = 5 := by omega
              subst ew
              exact hkf.2.2.2.2.2.2.2))
  · refine zT.aload_n 0 dX1_count_96 rfl rfl ?_
    refine zT.getF dX1_count_97 fX1_73 rfl (zPan.k hR.sh) (j := 8) (by decide) rfl (zPan.f8 hR.sh) ?_
    refine zT.getI dX1_count_100 fX1_213 rfl (zPlan.k (zPan.o8 hR.sh)) (j := 5) (by decide) rfl (fun z100 => ?_)
    refine zT.iret dX1_count_103 rfl ?_
    refine ⟨?_, rfl, rfl⟩
    congr 2
    first
      | (have ew : w = 0 := by omega
         subst ew
         simp only [Int.le_refl, true_and, if_pos (show (0 : Int) ≤ 2 by decide)]
         omega)
      | (repeat' split
         all_goals first
           | omega
           | (exfalso; omega)
           | (have ew : w = 1 := by omega
              subst ew
              omega)
           | (have ew : w = 2 := by omega
              subst ew
              omega)
           | (have ew : w = 3 := by omega
              subst ew
              exact hkf.2.2.2.2.2.1)
           | (have ew : w = 4 := by omega
              subst ew
              exact hkf.2.2.2.2.2.2.1)
           | (have ew : w = 5 := by omega
              subst ew
              exact hkf.2.2.2.2.2.2.2))
  · refine zT.aload_n 0 dX1_count_104 rfl rfl ?_
    refine zT.getI dX1_count_105 fX1_191 rfl (zPan.k hR.sh) (j := 1) (by decide) rfl (fun z105 => ?_)
    refine zT.iret dX1_count_108 rfl ?_
    refine ⟨?_, rfl, rfl⟩
    congr 2
    first
      | (have ew : w = 0 := by omega
         subst ew
         simp only [Int.le_refl, true_and, if_pos (show (0 : Int) ≤ 2 by decide)]
         omega)
      | (repeat' split
         all_goals first
           | omega
           | (exfalso; omega)
           | (have ew : w = 1 := by omega
              subst ew
              omega)
           | (have ew : w = 2 := by omega
              subst ew
              omega)
           | (have ew : w = 3 := by omega
              subst ew
              exact hkf.2.2.2.2.2.1)
           | (have ew : w = 4 := by omega
              subst ew
              exact hkf.2.2.2.2.2.2.1)
           | (have ew : w = 5 := by omega
              subst ew
              exact hkf.2.2.2.2.2.2.2))


theorem C_X1_fewest {G : zG}  {S : zS} {m : zMm} {x : Int} {A : zMm} (hR : rel S m x A) {n u a : Int} (hn : zi n) (hu : zi u) (ha : zi a) : zC G mX1_fewest 1 0 0 [zR x, zI n, zI u, zI a] S m (zDet (some (zI (if (1 ≤ n ∧ n ≤ 4000) ∧ (1 ≤ u ∧ u ≤ 20) ∧ (1 ≤ a ∧ a ≤ 999) ∧ 2 ≤ a / u then (2 * n + a / u - 1) / (a / u) else -1))) S m) zNX := by
  refine zC.of [zR x, zI n, zI u, zI a, zU] (by decide) rfl (zEn1 (zcR _) (zEn1 (zcI _) (zEn1 (zcI _) (zEn1 (zcI _) (zEn0 (by simp)))))) rfl ?_
  refine zT.iload_n 1 dX1_fewest_0 rfl rfl ?_
  refine zT.iconst dX1_fewest_1 ?_
  refine zT.sipush dX1_fewest_2 ?_
  refine zT.callS (M' := mX1_isIn) [zI n, zI 1, zI 4000] [] dX1_fewest_5 kX1_231 rfl rfl (C_X1_isIn (by first | assumption | exact zq_i _ | exact zand_i _ _ | exact zor_i _ _ | exact zxor_i _ _ | exact zN _ | omega) (by first | assumption | exact zq_i _ | exact zand_i _ _ | exact zor_i _ _ | exact zxor_i _ _ | exact zN _ | omega) (by first | assumption | exact zq_i _ | exact zand_i _ _ | exact zor_i _ _ | exact zxor_i _ _ | exact zN _ | omega)) (by decide) (k' := 0) (n' := 0) (by omega) (by omega) (by decide) (zdk (v := some (zI (zq (1 ≤ n ∧ n ≤ 4000)))) ?_) (fun _ _ _ _ h => h.elim)
  show zT G _ _ _ _ [zI (zq (1 ≤ n ∧ n ≤ 4000))] _ _ _ _ _ _
  refine zT.if_eqB (tgt := 39) dX1_fewest_8 (by decide) (fun c8 => ?_) (fun c8 => ?_)
  · refine zT.iconst dX1_fewest_39 ?_
    refine zT.iret dX1_fewest_40 rfl ?_
    first | exact ⟨by rw [if_pos (by omega)], rfl, rfl⟩ | exact ⟨by rw [if_neg (by omega)], rfl, rfl⟩
  · refine zT.iload_n 2 dX1_fewest_11 rfl rfl ?_
    refine zT.iconst dX1_fewest_12 ?_
    refine zT.bipush dX1_fewest_13 ?_
    refine zT.callS (M' := mX1_isIn) [zI u, zI 1, zI 20] [] dX1_fewest_15 kX1_231 rfl rfl (C_X1_isIn (by first | assumption | exact zq_i _ | exact zand_i _ _ | exact zor_i _ _ | exact zxor_i _ _ | exact zN _ | omega) (by first | assumption | exact zq_i _ | exact zand_i _ _ | exact zor_i _ _ | exact zxor_i _ _ | exact zN _ | omega) (by first | assumption | exact zq_i _ | exact zand_i _ _ | exact zor_i _ _ | exact zxor_i _ _ | exact zN _ | omega)) (by decide) (k' := 0) (n' := 0) (by omega) (by omega) (by decide) (zdk (v := some (zI (zq (1 ≤ u ∧ u ≤ 20)))) ?_) (fun _ _ _ _ h => h.elim)
    show zT G _ _ _ _ [zI (zq (1 ≤ u ∧ u ≤ 20))] _ _ _ _ _ _
    refine zT.if_eqB (tgt := 39) dX1_fewest_18 (by decide) (fun c18 => ?_) (fun c18 => ?_)
    · refine zT.iconst dX1_fewest_39 ?_
      refine zT.iret dX1_fewest_40 rfl ?_
      first | exact ⟨by rw [if_pos (by omega)], rfl, rfl⟩ | exact ⟨by rw [if_neg (by omega)], rfl, rfl⟩
    · refine zT.iload_n 3 dX1_fewest_21 rfl rfl ?_
      refine zT.iconst dX1_fewest_22 ?_
      refine zT.sipush dX1_fewest_23 ?_
      refine zT.callS (M' := mX1_isIn) [zI a, zI 1, zI 999] [] dX1_fewest_26 kX1_231 rfl rfl (C_X1_isIn (by first | assumption | exact zq_i _ | exact zand_i _ _ | exact zor_i _ _ | exact zxor_i _ _ | exact zN _ | omega) (by first | assumption | exact zq_i _ | exact zand_i _ _ | exact zor_i _ _ | exact zxor_i _ _ | exact zN _ | omega) (by first | assumption | exact zq_i _ | exact zand_i _ _ | exact zor_i _ _ | exact zxor_i _ _ | exact zN _ | omega)) (by decide) (k' := 0) (n' := 0) (by omega) (by omega) (by decide) (zdk (v := some (zI (zq (1 ≤ a ∧ a ≤ 999)))) ?_) (fun _ _ _ _ h => h.elim)
      show zT G _ _ _ _ [zI (zq (1 ≤ a ∧ a ≤ 999))] _ _ _ _ _ _
      refine zT.if_eqB (tgt := 39) dX1_fewest_29 (by decide) (fun c29 => ?_) (fun c29 => ?_)
      · refine zT.iconst dX1_fewest_39 ?_
        refine zT.iret dX1_fewest_40 rfl ?_
        first | exact ⟨by rw [if_pos (by omega)], rfl, rfl⟩ | exact ⟨by rw [if_neg (by omega)], rfl, rfl⟩
      · have hdb : 0 ≤ a / u ∧ a / u ≤ 999 := ⟨Int.ediv_nonneg (by omega) (by omega), by have := Int.ediv_le_self (b := u) (show 0 ≤ a by omega); omega⟩
        refine zT.iload_n 3 dX1_fewest_32 rfl rfl ?_
        refine zT.iload_n 2 dX1_fewest_33 rfl rfl ?_
        refine zT.idiv dX1_fewest_34 (by first | assumption | exact zq_i _ | exact zand_i _ _ | exact zor_i _ _ | exact zxor_i _ _ | exact zN _ | omega) (by first | assumption | exact zq_i _ | exact zand_i _ _ | exact zor_i _ _ | exact zxor_i _ _ | exact zN _ | omega) (by first | assumption | exact zq_i _ | exact zand_i _ _ | exact zor_i _ _ | exact zxor_i _ _ | exact zN _ | omega) (by first | assumption | exact zq_i _ | exact zand_i _ _ | exact zor_i _ _ | exact zxor_i _ _ | exact zN _ | omega) ?_
        refine zT.iconst dX1_fewest_35 ?_
        refine zT.ic_ge (tgt := 41) dX1_fewest_36 (by decide) (by first | assumption | exact zq_i _ | exact zand_i _ _ | exact zor_i _ _ | exact zxor_i _ _ | exact zN _ | omega) (by first | assumption | exact zq_i _ | exact zand_i _ _ | exact zor_i _ _ | exact zxor_i _ _ | exact zN _ | omega) (fun c36 => ?_) (fun c36 => ?_)
        · refine zT.iload_n 3 dX1_fewest_41 rfl rfl ?_
          refine zT.iload_n 2 dX1_fewest_42 rfl rfl ?_
          refine zT.idiv dX1_fewest_43 (by first | assumption | exact zq_i _ | exact zand_i _ _ | exact zor_i _ _ | exact zxor_i _ _ | exact zN _ | omega) (by first | assumption | exact zq_i _ | exact zand_i _ _ | exact zor_i _ _ | exact zxor_i _ _ | exact zN _ | omega) (by first | assumption | exact zq_i _ | exact zand_i _ _ | exact zor_i _ _ | exact zxor_i _ _ | exact zN _ | omega) (by first | assumption | exact zq_i _ | exact zand_i _ _ | exact zor_i _ _ | exact zxor_i _ _ | exact zN _ | omega) ?_
          refine zT.istore 4 dX1_fewest_44 (by decide) (zpre1 rfl (zcI _)) ?_
          show zT G _ _ _ [zR x, zI n, zI u, zI a, zI (a / u)] _ _ _ _ _ _ _
          refine zT.iconst dX1_fewest_46 ?_
          refine zT.iload_n 1 dX1_fewest_47 rfl rfl ?_
          refine zT.imul dX1_fewest_48 ?_
          refine zT.iload 4 dX1_fewest_49 rfl ?_
          refine zT.iadd dX1_fewest_51 ?_
          refine zT.iconst dX1_fewest_52 ?_
          refine zT.isub dX1_fewest_53 ?_
          refine zT.iload 4 dX1_fewest_54 rfl ?_
          refine zT.idiv dX1_fewest_56 (by first | assumption | exact zq_i _ | exact zand_i _ _ | exact zor_i _ _ | exact zxor_i _ _ | exact zN _ | omega) (by first | assumption | exact zq_i _ | exact zand_i _ _ | exact zor_i _ _ | exact zxor_i _ _ | exact zN _ | omega) (by first | assumption | exact zq_i _ | exact zand_i _ _ | exact zor_i _ _ | exact zxor_i _ _ | exact zN _ | omega) (by first | assumption | exact zq_i _ | exact zand_i _ _ | exact zor_i _ _ | exact zxor_i _ _ | exact zN _ | omega) ?_
          refine zT.iret dX1_fewest_57 rfl ?_
          first | exact ⟨by rw [if_pos (by omega)], rfl, rfl⟩ | exact ⟨by rw [if_neg (by omega)], rfl, rfl⟩
        · refine zT.iconst dX1_fewest_39 ?_
          refine zT.iret dX1_fewest_40 rfl ?_
          first | exact ⟨by rw [if_pos (by omega)], rfl, rfl⟩ | exact ⟨by rw [if_neg (by omega)], rfl, rfl⟩

