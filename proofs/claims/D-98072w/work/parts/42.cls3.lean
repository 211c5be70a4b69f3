/-! PanSlices: add, drop, later, undo (written by gen/m_cls3.py) -/
theorem C_X1_add {G : zG}  {S : zS} {m : zMm} {x : Int} {A : zMm} (hR : rel S m x A) {s c f a n : Int} (hs : zi s) (hc : zi c) (hf : zi f) (ha : zi a) (hn : zi n) : zC G mX1_add 4 6 2006 [zR x, zI s, zI c, zI f, zI a, zI n] S m (zPo S m x (some (zI (if ((0 ≤ s ∧ s < (aK (A 0 1023) (A 2)) 5) ∧ (0 ≤ c ∧ c ≤ 1) ∧ (0 ≤ f ∧ f ≤ 240) ∧ (0 ≤ a ∧ a ≤ (aK (A 0 1023) (A 2)) 0 - 1) ∧ (1 ≤ n ∧ n ≤ 20) ∧ A 2 58 ≠ 400) then A 2 58 else -1))) (if ((0 ≤ s ∧ s < (aK (A 0 1023) (A 2)) 5) ∧ (0 ≤ c ∧ c ≤ 1) ∧ (0 ≤ f ∧ f ≤ 240) ∧ (0 ≤ a ∧ a ≤ (aK (A 0 1023) (A 2)) 0 - 1) ∧ (1 ≤ n ∧ n ≤ 20) ∧ A 2 58 ≠ 400) then uGo (uSnap (uLay A)) s c f a n else uLay A)) zNX := by
  have hk := hR.vki.1
  have hKi := (hR.ki.2.1).ki hk
  have hKn := hKi.nu
  have hkr := hR.ki.2.1
  have hkf := hkr.2.1
  have hk0 := hk.1
  have hpl := hR.pl
  have hpv := hR.vpl
  have hPl := hpl.pl hpv
  have hPl0 := hPl.1
  have hPl1 := hPl.2.1
  have hgn := hpl.2.1
  have hL := hR.lay
  have hB : uLay A 0 1023 = 1 := uLay_bg hR.vbg
  refine zC.of [zR x, zI s, zI c, zI f, zI a, zI n] (by decide) rfl (zEn1 (zcR _) (zEn1 (zcI _) (zEn1 (zcI _) (zEn1 (zcI _) (zEn1 (zcI _) (zEn1 (zcI _) (zEn0 (by simp)))))))) rfl ?_
  refine zT.aload_n 0 dX1_add_0 rfl rfl ?_
  refine zT.iload_n 1 dX1_add_1 rfl rfl ?_
  refine zT.callV (M' := mX1_isSlice) (b := x) [zI s] [] dX1_add_2 kX1_235 rfl rfl (ci := 0) (r := (RX1, TX1, 42)) rfl (zPan.k hR.sh) (C_X1_isSlice hR (by first | assumption | exact zq_i _ | exact zand_i _ _ | exact zor_i _ _ | exact zxor_i _ _ | exact zN _ | omega)) (by decide) (k' := 6) (n' := 2006) (by omega) (by omega) (by decide) (zdk (v := some (zI (zq (0 ≤ s ∧ s < (aK (A 0 1023) (A 2)) 5)))) ?_) (fun _ _ _ _ h => h.elim)
  show zT G _ _ _ _ [zI (zq (0 ≤ s ∧ s < (aK (A 0 1023) (A 2)) 5))] _ _ _ _ _ _
  refine zT.if_eqB (tgt := 70) dX1_add_5 (by decide) (fun c5 => ?_) (fun c5 => ?_)
  · refine zT.iconst dX1_add_70 ?_
    refine zT.iret dX1_add_71 rfl ?_
    rw [if_neg (by omega), if_neg (by omega)]
    exact ⟨rfl, zGr.rf, hL, zOut.rf⟩
  · refine zT.iload_n 2 dX1_add_8 rfl rfl ?_
    refine zT.iconst dX1_add_9 ?_
    refine zT.iconst dX1_add_10 ?_
    refine zT.callS (M' := mX1_isIn) [zI c, zI 0, zI 1] [] dX1_add_11 kX1_231 rfl rfl (C_X1_isIn (by first | assumption | exact zq_i _ | exact zand_i _ _ | exact zor_i _ _ | exact zxor_i _ _ | exact zN _ | omega) (by first | assumption | exact zq_i _ | exact zand_i _ _ | exact zor_i _ _ | exact zxor_i _ _ | exact zN _ | omega) (by first | assumption | exact zq_i _ | exact zand_i _ _ | exact zor_i _ _ | exact zxor_i _ _ | exact zN _ | omega)) (by decide) (k' := 6) (n' := 2006) (by omega) (by omega) (by decide) (zdk (v := some (zI (zq (0 ≤ c ∧ c ≤ 1)))) ?_) (fun _ _ _ _ h => h.elim)
    show zT G _ _ _ _ [zI (zq (0 ≤ c ∧ c ≤ 1))] _ _ _ _ _ _
    refine zT.if_eqB (tgt := 70) dX1_add_14 (by decide) (fun c14 => ?_) (fun c14 => ?_)
    · refine zT.iconst dX1_add_70 ?_
      refine zT.iret dX1_add_71 rfl ?_
      rw [if_neg (by omega), if_neg (by omega)]
      exact ⟨rfl, zGr.rf, hL, zOut.rf⟩
    · refine zT.iload_n 3 dX1_add_17 rfl rfl ?_
      refine zT.iconst dX1_add_18 ?_
      refine zT.sipush dX1_add_19 ?_
      refine zT.callS (M' := mX1_isIn) [zI f, zI 0, zI 240] [] dX1_add_22 kX1_231 rfl rfl (C_X1_isIn (by first | assumption | exact zq_i _ | exact zand_i _ _ | exact zor_i _ _ | exact zxor_i _ _ | exact zN _ | omega) (by first | assumption | exact zq_i _ | exact zand_i _ _ | exact zor_i _ _ | exact zxor_i _ _ | exact zN _ | omega) (by first | assumption | exact zq_i _ | exact zand_i _ _ | exact zor_i _ _ | exact zxor_i _ _ | exact zN _ | omega)) (by decide) (k' := 6) (n' := 2006) (by omega) (by omega) (by decide) (zdk (v := some (zI (zq (0 ≤ f ∧ f ≤ 240)))) ?_) (fun _ _ _ _ h => h.elim)
      show zT G _ _ _ _ [zI (zq (0 ≤ f ∧ f ≤ 240))] _ _ _ _ _ _
      refine zT.if_eqB (tgt := 70) dX1_add_25 (by decide) (fun c25 => ?_) (fun c25 => ?_)
      · refine zT.iconst dX1_add_70 ?_
        refine zT.iret dX1_add_71 rfl ?_
        rw [if_neg (by omega), if_neg (by omega)]
        exact ⟨rfl, zGr.rf, hL, zOut.rf⟩
      · refine zT.iload 4 dX1_add_28 rfl ?_
        refine zT.iconst dX1_add_30 ?_
        refine zT.aload_n 0 dX1_add_31 rfl rfl ?_
        refine zT.getR dX1_add_32 fX1_66 rfl (zPan.k hR.sh) (j := 7) (by decide) rfl ?_
        refine zT.getI dX1_add_35 fX1_332 rfl (zKit.k hR.ki.2.1.1) (j := 11) (by decide) rfl (fun z35 => ?_)
        refine zT.iconst dX1_add_38 ?_
        refine zT.isub dX1_add_39 ?_
        refine zT.callS (M' := mX1_isIn) [zI a, zI 0, zI ((m (m x 7) 211) - 1)] [] dX1_add_40 kX1_231 rfl rfl (C_X1_isIn (by first | assumption | exact zq_i _ | exact zand_i _ _ | exact zor_i _ _ | exact zxor_i _ _ | exact zN _ | omega) (by first | assumption | exact zq_i _ | exact zand_i _ _ | exact zor_i _ _ | exact zxor_i _ _ | exact zN _ | omega) (by first | assumption | exact zq_i _ | exact zand_i _ _ | exact zor_i _ _ | exact zxor_i _ _ | exact zN _ | omega)) (by decide) (k' := 6) (n' := 2006) (by omega) (by omega) (by decide) (zdk (v := some (zI (zq (0 ≤ a ∧ a ≤ ((m (m x 7) 211) - 1))))) ?_) (fun _ _ _ _ h => h.elim)
        show zT G _ _ _ _ [zI (zq (0 ≤ a ∧ a ≤ ((m (m x 7) 211) - 1)))] _ _ _ _ _ _
        refine zT.if_eqB (tgt := 70) dX1_add_43 (by decide) (fun c43 => ?_) (fun c43 => ?_)
        · refine zT.iconst dX1_add_70 ?_
          refine zT.iret dX1_add_71 rfl ?_
          rw [if_neg (by omega), if_neg (by omega)]
          exact ⟨rfl, zGr.rf, hL, zOut.rf⟩
        · refine zT.iload 5 dX1_add_46 rfl ?_
          refine zT.iconst dX1_add_48 ?_
          refine zT.bipush dX1_add_49 ?_
          refine zT.callS (M' := mX1_isIn) [zI n, zI 1, zI 20] [] dX1_add_51 kX1_231 rfl rfl (C_X1_isIn (by first | assumption | exact zq_i _ | exact zand_i _ _ | exact zor_i _ _ | exact zxor_i _ _ | exact zN _ | omega) (by first | assumption | exact zq_i _ | exact zand_i _ _ | exact zor_i _ _ | exact zxor_i _ _ | exact zN _ | omega) (by first | assumption | exact zq_i _ | exact zand_i _ _ | exact zor_i _ _ | exact zxor_i _ _ | exact zN _ | omega)) (by decide) (k' := 6) (n' := 2006) (by omega) (by omega) (by decide) (zdk (v := some (zI (zq (1 ≤ n ∧ n ≤ 20)))) ?_) (fun _ _ _ _ h => h.elim)
          show zT G _ _ _ _ [zI (zq (1 ≤ n ∧ n ≤ 20))] _ _ _ _ _ _
          refine zT.if_eqB (tgt := 70) dX1_add_54 (by decide) (fun c54 => ?_) (fun c54 => ?_)
          · refine zT.iconst dX1_add_70 ?_
            refine zT.iret dX1_add_71 rfl ?_
            rw [if_neg (by omega), if_neg (by omega)]
            exact ⟨rfl, zGr.rf, hL, zOut.rf⟩
          · refine zT.aload_n 0 dX1_add_57 rfl rfl ?_
            refine zT.getF dX1_add_58 fX1_73 rfl (zPan.k hR.sh) (j := 8) (by decide) rfl (zPan.f8 hR.sh) ?_
            refine zT.getI dX1_add_61 fX1_213 rfl (zPlan.k (zPan.o8 hR.sh)) (j := 5) (by decide) rfl (fun z61 => ?_)
            refine zT.sipush dX1_add_64 ?_
            refine zT.ic_ne (tgt := 72) dX1_add_67 (by decide) (by first | assumption | exact zq_i _ | exact zand_i _ _ | exact zor_i _ _ | exact zxor_i _ _ | exact zN _ | omega) (by first | assumption | exact zq_i _ | exact zand_i _ _ | exact zor_i _ _ | exact zxor_i _ _ | exact zN _ | omega) (fun c67 => ?_) (fun c67 => ?_)
            · refine zT.aload_n 0 dX1_add_72 rfl rfl ?_
              refine zT.callV (M' := mX1_keep) (b := x) [] [] dX1_add_73 kX1_270 rfl rfl (ci := 0) (r := (RX1, TX1, 42)) rfl (zPan.k hR.sh) (C_X1_keep hL) (by decide) (k' := 0) (n' := 0) (by omega) (by omega) (by decide) (fun v73 S73_ m73_ h73 => ?_) (fun _ _ _ _ h => h.elim)
              obtain ⟨rfl, g73, hR73, o73⟩ := h73
              show zT G _ _ _ _ [] _ _ _ _ _ _
              have hn9 : m73_ (x + 14) 305 = A 2 58 := by
                have q := hR73.pl.2.1
                rw [uSnap_r (by omega) (by omega), uLay_2 (by omega)] at q
                exact q
              refine zT.aload_n 0 dX1_add_76 rfl rfl ?_
              refine zT.getF dX1_add_77 fX1_73 rfl (zPan.k hR73.sh) (j := 8) (by decide) rfl (zPan.f8 hR73.sh) ?_
              refine zT.iload_n 1 dX1_add_80 rfl rfl ?_
              refine zT.iload_n 2 dX1_add_81 rfl rfl ?_
              refine zT.iload_n 3 dX1_add_82 rfl rfl ?_
              refine zT.iload 4 dX1_add_83 rfl ?_
              refine zT.iload 5 dX1_add_85 rfl ?_
              refine zT.callV (M' := mX4_go) (b := (x + 14)) [zI s, zI c, zI f, zI a, zI n] [] dX1_add_87 kX1_335 rfl rfl (ci := 3) (r := (RX4, TX4, 6)) rfl (zPlan.k (zPan.o8 hR73.sh)) (C_X4_go (zPan.o8 hR73.sh) (by first | assumption | exact zq_i _ | exact zand_i _ _ | exact zor_i _ _ | exact zxor_i _ _ | exact zN _ | omega) (by first | assumption | exact zq_i _ | exact zand_i _ _ | exact zor_i _ _ | exact zxor_i _ _ | exact zN _ | omega) (by first | assumption | exact zq_i _ | exact zand_i _ _ | exact zor_i _ _ | exact zxor_i _ _ | exact zN _ | omega) (by first | assumption | exact zq_i _ | exact zand_i _ _ | exact zor_i _ _ | exact zxor_i _ _ | exact zN _ | omega) (by first | assumption | exact zq_i _ | exact zand_i _ _ | exact zor_i _ _ | exact zxor_i _ _ | exact zN _ | omega) (by first | assumption | exact zq_i _ | exact zand_i _ _ | exact zor_i _ _ | exact zxor_i _ _ | exact zN _ | omega) (by first | assumption | exact zq_i _ | exact zand_i _ _ | exact zor_i _ _ | exact zxor_i _ _ | exact zN _ | omega)) (by decide) (k' := 0) (n' := 0) (by omega) (by omega) (by decide) (zdk (v := some (zI (m73_ (x + 14) 305))) ?_) (fun _ _ _ _ h => h.elim)
              show zT G _ _ _ _ [zI (m73_ (x + 14) 305)] _ _ _ _ _ _
              obtain ⟨m1, em1⟩ : ∃ z, z = zgo m73_ (x + 14) s c f a n := ⟨_, rfl⟩
              rw [← em1]
              refine zT.iret dX1_add_90 rfl ?_
              rw [if_pos (by omega), if_pos (by omega), em1]
              have hb2 : uSnap (uLay A) 0 1023 = 1 := by rw [uSnap_o (by omega)]; exact hB
              have hn2 : uSnap (uLay A) 2 58 = A 2 58 := by rw [uSnap_o (by omega), uLay_2 (by omega)]
              exact ⟨by rw [hn9], g73, hR73.go hb2 (by omega) (by omega), fun b b0 b1 j => by rw [zgo_ne (by omega)]; exact o73 b b0 b1 j⟩
            · refine zT.iconst dX1_add_70 ?_
              refine zT.iret dX1_add_71 rfl ?_
              rw [if_neg (by omega), if_neg (by omega)]
              exact ⟨rfl, zGr.rf, hL, zOut.rf⟩

theorem C_X1_drop {G : zG}  {S : zS} {m : zMm} {x : Int} {A : zMm} (hR : rel S m x A) {k : Int} (hk : zi k) : zC G mX1_drop 4 6 2006 [zR x, zI k] S m (zPo S m x (some (zI (if 0 ≤ k ∧ k < A 2 58 then 1 else 0))) (if 0 ≤ k ∧ k < A 2 58 then uDrop (uSnap A) k else A)) zNX := by
  have hpl := hR.pl
  have hpv := hR.vpl
  have hPl := hpl.pl hpv
  have hPl0 := hPl.1
  have hPl1 := hPl.2.1
  have hgn := hpl.2.1
  have hB : 0 < A 2 58 → A 0 1023 = 1 := fun q => by
    rcases hR.vbg with z | ⟨z, z2⟩
    · exact z
    · rw [z2] at q
      omega
  refine zC.of [zR x, zI k] (by decide) rfl (zEn1 (zcR _) (zEn1 (zcI _) (zEn0 (by simp)))) rfl ?_
  refine zT.aload_n 0 dX1_drop_0 rfl rfl ?_
  refine zT.iload_n 1 dX1_drop_1 rfl rfl ?_
  refine zT.callV (M' := mX1_isGo) (b := x) [zI k] [] dX1_drop_2 kX1_339 rfl rfl (ci := 0) (r := (RX1, TX1, 42)) rfl (zPan.k hR.sh) (C_X1_isGo hR (by first | assumption | exact zq_i _ | exact zand_i _ _ | exact zor_i _ _ | exact zxor_i _ _ | exact zN _ | omega)) (by decide) (k' := 6) (n' := 2006) (by omega) (by omega) (by decide) (zdk (v := some (zI (zq (0 ≤ k ∧ k < A 2 58)))) ?_) (fun _ _ _ _ h => h.elim)
  show zT G _ _ _ _ [zI (zq (0 ≤ k ∧ k < A 2 58))] _ _ _ _ _ _
  refine zT.if_neB (tgt := 10) dX1_drop_5 (by decide) (fun c5 => ?_) (fun c5 => ?_)
  · refine zT.aload_n 0 dX1_drop_10 rfl rfl ?_
    refine zT.callV (M' := mX1_keep) (b := x) [] [] dX1_drop_11 kX1_270 rfl rfl (ci := 0) (r := (RX1, TX1, 42)) rfl (zPan.k hR.sh) (C_X1_keep hR) (by decide) (k' := 0) (n' := 0) (by omega) (by omega) (by decide) (fun v11 S11_ m11_ h11 => ?_) (fun _ _ _ _ h => h.elim)
    obtain ⟨rfl, g11, hR11, o11⟩ := h11
    show zT G _ _ _ _ [] _ _ _ _ _ _
    have hn9 : m11_ (x + 14) 305 = A 2 58 := by
      have q := hR11.pl.2.1
      rw [uSnap_r (by omega) (by omega)] at q
      exact q
    have hb2 : uSnap A 0 1023 = 1 := by rw [uSnap_o (by omega)]; exact hB (by omega)
    have hn2 : uSnap A 2 58 = A 2 58 := by rw [uSnap_o (by omega)]
    refine zT.aload_n 0 dX1_drop_14 rfl rfl ?_
    refine zT.getF dX1_drop_15 fX1_73 rfl (zPan.k hR11.sh) (j := 8) (by decide) rfl (zPan.f8 hR11.sh) ?_
    refine zT.iload_n 1 dX1_drop_18 rfl rfl ?_
    refine zT.callV (M' := mX4_drop) (b := (x + 14)) [zI k] [] dX1_drop_19 kX1_342 rfl rfl (ci := 3) (r := (RX4, TX4, 6)) rfl (zPlan.k (zPan.o8 hR11.sh)) (C_X4_drop (zPan.o8 hR11.sh) (by omega) (by omega) (by omega)) (by decide) (k' := 0) (n' := 0) (by omega) (by omega) (by decide) (zdk (v := none) ?_) (fun _ _ _ _ h => h.elim)
    show zT G _ _ _ _ [] _ _ _ _ _ _
    obtain ⟨m1, em1⟩ : ∃ z, z = zdr m11_ (x + 14) k (m11_ (x + 14) 305 - 1) := ⟨_, rfl⟩
    rw [← em1]
    refine zT.iconst dX1_drop_22 ?_
    refine zT.zret dX1_drop_23 rfl (by omega) ?_
    rw [if_pos (by omega), if_pos (by omega), em1, hn9, ← hn2]
    exact ⟨rfl, g11, hR11.drop hb2 (by omega) (by omega), fun b b0 b1 j => by unfold zdr; rw [if_neg (by omega), if_neg (by omega)]; exact o11 b b0 b1 j⟩
  · refine zT.iconst dX1_drop_8 ?_
    refine zT.zret dX1_drop_9 rfl (by omega) ?_
    rw [if_neg (by omega), if_neg (by omega)]
    exact ⟨rfl, zGr.rf, hR, zOut.rf⟩

theorem C_X1_later {G : zG}  {S : zS} {m : zMm} {x : Int} {A : zMm} (hR : rel S m x A) {k y : Int} (hk : zi k) (hy : zi y) : zC G mX1_later 4 6 2006 [zR x, zI k, zI y] S m (zPo S m x (some (zI (if (0 ≤ k ∧ k < A 2 58) ∧ y ≠ 0 ∧ (-900 ≤ y ∧ y ≤ 900) ∧ 0 ≤ aGo (A 2) 58 k 2 + y ∧ aGo (A 2) 58 k 2 + y ≤ 900 then 1 else 0))) (if (0 ≤ k ∧ k < A 2 58) ∧ y ≠ 0 ∧ (-900 ≤ y ∧ y ≤ 900) ∧ 0 ≤ aGo (A 2) 58 k 2 + y ∧ aGo (A 2) 58 k 2 + y ≤ 900 then uMove (uSnap A) k (aGo (A 2) 58 k 2 + y) else A)) zNX := by
  have hpl := hR.pl
  have hpv := hR.vpl
  have hPl := hpl.pl hpv
  have hPl0 := hPl.1
  have hPl1 := hPl.2.1
  have hgn := hpl.2.1
  have hB : 0 < A 2 58 → A 0 1023 = 1 := fun q => by
    rcases hR.vbg with z | ⟨z, z2⟩
    · exact z
    · rw [z2] at q
      omega
  refine zC.of [zR x, zI k, zI y] (by decide) rfl (zEn1 (zcR _) (zEn1 (zcI _) (zEn1 (zcI _) (zEn0 (by simp))))) rfl ?_
  refine zT.aload_n 0 dX1_later_0 rfl rfl ?_
  refine zT.iload_n 1 dX1_later_1 rfl rfl ?_
  refine zT.callV (M' := mX1_isGo) (b := x) [zI k] [] dX1_later_2 kX1_339 rfl rfl (ci := 0) (r := (RX1, TX1, 42)) rfl (zPan.k hR.sh) (C_X1_isGo hR (by first | assumption | exact zq_i _ | exact zand_i _ _ | exact zor_i _ _ | exact zxor_i _ _ | exact zN _ | omega)) (by decide) (k' := 6) (n' := 2006) (by omega) (by omega) (by decide) (zdk (v := some (zI (zq (0 ≤ k ∧ k < A 2 58)))) ?_) (fun _ _ _ _ h => h.elim)
  show zT G _ _ _ _ [zI (zq (0 ≤ k ∧ k < A 2 58))] _ _ _ _ _ _
  refine zT.if_eqB (tgt := 46) dX1_later_5 (by decide) (fun c5 => ?_) (fun c5 => ?_)
  · refine zT.iconst dX1_later_46 ?_
    refine zT.zret dX1_later_47 rfl (by omega) ?_
    rw [if_neg (by omega), if_neg (by omega)]
    exact ⟨rfl, zGr.rf, hR, zOut.rf⟩
  · refine zT.iload_n 2 dX1_later_8 rfl rfl ?_
    refine zT.if_eq (tgt := 46) dX1_later_9 (by decide) (by first | assumption | exact zq_i _ | exact zand_i _ _ | exact zor_i _ _ | exact zxor_i _ _ | exact zN _ | omega) (fun c9 => ?_) (fun c9 => ?_)
    · refine zT.iconst dX1_later_46 ?_
      refine zT.zret dX1_later_47 rfl (by omega) ?_
      rw [if_neg (by omega), if_neg (by omega)]
      exact ⟨rfl, zGr.rf, hR, zOut.rf⟩
    · refine zT.iload_n 2 dX1_later_12 rfl rfl ?_
      refine zT.sipush dX1_later_13 ?_
      refine zT.sipush dX1_later_16 ?_
      refine zT.callS (M' := mX1_isIn) [zI y, zI (-900), zI 900] [] dX1_later_19 kX1_231 rfl rfl (C_X1_isIn (by first | assumption | exact zq_i _ | exact zand_i _ _ | exact zor_i _ _ | exact zxor_i _ _ | exact zN _ | omega) (by first | assumption | exact zq_i _ | exact zand_i _ _ | exact zor_i _ _ | exact zxor_i _ _ | exact zN _ | omega) (by first | assumption | exact zq_i _ | exact zand_i _ _ | exact zor_i _ _ | exact zxor_i _ _ | exact zN _ | omega)) (by decide) (k' := 6) (n' := 2006) (by omega) (by omega) (by decide) (zdk (v := some (zI (zq ((-900) ≤ y ∧ y ≤ 900)))) ?_) (fun _ _ _ _ h => h.elim)
      show zT G _ _ _ _ [zI (zq ((-900) ≤ y ∧ y ≤ 900))] _ _ _ _ _ _
      refine zT.if_eqB (tgt := 46) dX1_later_22 (by decide) (fun c22 => ?_) (fun c22 => ?_)
      · refine zT.iconst dX1_later_46 ?_
        refine zT.zret dX1_later_47 rfl (by omega) ?_
        rw [if_neg (by omega), if_neg (by omega)]
        exact ⟨rfl, zGr.rf, hR, zOut.rf⟩
      · have ge := hpl.2.2 k (by omega) (by omega)
        have gv := hpv.2.2 k (by omega) (by omega)
        refine zT.aload_n 0 dX1_later_25 rfl rfl ?_
        refine zT.getF dX1_later_26 fX1_73 rfl (zPan.k hR.sh) (j := 8) (by decide) rfl (zPan.f8 hR.sh) ?_
        refine zT.getF dX1_later_29 fX1_284 rfl (zPlan.k (zPan.o8 hR.sh)) (j := 2) (by decide) rfl (zPlan.f302 (zPan.o8 hR.sh)) ?_
        refine zT.iload_n 1 dX1_later_32 rfl rfl ?_
        refine zT.iald dX1_later_33 (zPlan.a302 (zPan.o8 hR.sh)) (by first | assumption | exact zq_i _ | exact zand_i _ _ | exact zor_i _ _ | exact zxor_i _ _ | exact zN _ | omega) (by rw [(zPlan.n302 (zPan.o8 hR.sh))]; first | assumption | exact zq_i _ | exact zand_i _ _ | exact zor_i _ _ | exact zxor_i _ _ | exact zN _ | omega) (fun z33 => ?_)
        refine zT.iload_n 2 dX1_later_34 rfl rfl ?_
        refine zT.iadd dX1_later_35 ?_
        refine zT.iconst dX1_later_36 ?_
        refine zT.sipush dX1_later_37 ?_
        refine zT.callS (M' := mX1_isIn) [zI ((m ((x + 14) + 3) k) + y), zI 0, zI 900] [] dX1_later_40 kX1_231 rfl rfl (C_X1_isIn (by first | assumption | exact zq_i _ | exact zand_i _ _ | exact zor_i _ _ | exact zxor_i _ _ | exact zN _ | omega) (by first | assumption | exact zq_i _ | exact zand_i _ _ | exact zor_i _ _ | exact zxor_i _ _ | exact zN _ | omega) (by first | assumption | exact zq_i _ | exact zand_i _ _ | exact zor_i _ _ | exact zxor_i _ _ | exact zN _ | omega)) (by decide) (k' := 6) (n' := 2006) (by omega) (by omega) (by decide) (zdk (v := some (zI (zq (0 ≤ ((m ((x + 14) + 3) k) + y) ∧ ((m ((x + 14) + 3) k) + y) ≤ 900)))) ?_) (fun _ _ _ _ h => h.elim)
        show zT G _ _ _ _ [zI (zq (0 ≤ ((m ((x + 14) + 3) k) + y) ∧ ((m ((x + 14) + 3) k) + y) ≤ 900))] _ _ _ _ _ _
        refine zT.if_neB (tgt := 48) dX1_later_43 (by decide) (fun c43 => ?_) (fun c43 => ?_)
        · refine zT.aload_n 0 dX1_later_48 rfl rfl ?_
          refine zT.callV (M' := mX1_keep) (b := x) [] [] dX1_later_49 kX1_270 rfl rfl (ci := 0) (r := (RX1, TX1, 42)) rfl (zPan.k hR.sh) (C_X1_keep hR) (by decide) (k' := 0) (n' := 0) (by omega) (by omega) (by decide) (fun v49 S49_ m49_ h49 => ?_) (fun _ _ _ _ h => h.elim)
          obtain ⟨rfl, g49, hR49, o49⟩ := h49
          show zT G _ _ _ _ [] _ _ _ _ _ _
          have hn9 : m49_ (x + 14) 305 = A 2 58 := by
            have q := hR49.pl.2.1
            rw [uSnap_r (by omega) (by omega)] at q
            exact q
          have hb2 : uSnap A 0 1023 = 1 := by rw [uSnap_o (by omega)]; exact hB (by omega)
          have hn2 : uSnap A 2 58 = A 2 58 := by rw [uSnap_o (by omega)]
          have ge9 : m49_ (x + 14 + 3) k = aGo (A 2) 58 k 2 := by
            have q := (hR49.pl.2.2 k (by omega) (by rw [uSnap_r (by omega) (by omega)]; omega)).2.2.1
            rw [uSnap_r (by omega) (by omega)] at q
            exact q
          refine zT.aload_n 0 dX1_later_52 rfl rfl ?_
          refine zT.getF dX1_later_53 fX1_73 rfl (zPan.k hR49.sh) (j := 8) (by decide) rfl (zPan.f8 hR49.sh) ?_
          refine zT.getF dX1_later_56 fX1_284 rfl (zPlan.k (zPan.o8 hR49.sh)) (j := 2) (by decide) rfl (zPlan.f302 (zPan.o8 hR49.sh)) ?_
          refine zT.iload_n 1 dX1_later_59 rfl rfl ?_
          refine zT.dup2 dX1_later_60 (zcI _) (zcR _) ?_
          refine zT.iald dX1_later_61 (zPlan.a302 (zPan.o8 hR49.sh)) (by first | assumption | exact zq_i _ | exact zand_i _ _ | exact zor_i _ _ | exact zxor_i _ _ | exact zN _ | omega) (by rw [(zPlan.n302 (zPan.o8 hR49.sh))]; first | assumption | exact zq_i _ | exact zand_i _ _ | exact zor_i _ _ | exact zxor_i _ _ | exact zN _ | omega) (fun z61 => ?_)
          refine zT.iload_n 2 dX1_later_62 rfl rfl ?_
          refine zT.iadd dX1_later_63 ?_
          refine zT.iast dX1_later_64 (zPlan.a302 (zPan.o8 hR49.sh)) (by first | assumption | exact zq_i _ | exact zand_i _ _ | exact zor_i _ _ | exact zxor_i _ _ | exact zN _ | omega) (by rw [(zPlan.n302 (zPan.o8 hR49.sh))]; first | assumption | exact zq_i _ | exact zand_i _ _ | exact zor_i _ _ | exact zxor_i _ _ | exact zN _ | omega) (by first | assumption | exact zq_i _ | exact zand_i _ _ | exact zor_i _ _ | exact zxor_i _ _ | exact zN _ | omega) ?_
          obtain ⟨m1, em1⟩ : ∃ z, z = zup m49_ ((x + 14) + 3) k ((m49_ ((x + 14) + 3) k) + y) := ⟨_, rfl⟩
          rw [← em1]
          refine zT.iconst dX1_later_65 ?_
          refine zT.zret dX1_later_66 rfl (by omega) ?_
          rw [if_pos (by omega), if_pos (by omega), em1, ge9]
          exact ⟨rfl, g49, hR49.move hb2 (by omega) (by omega) (by omega), fun b b0 b1 j => by rw [zup_ne (by omega)]; exact o49 b b0 b1 j⟩
        · refine zT.iconst dX1_later_46 ?_
          refine zT.zret dX1_later_47 rfl (by omega) ?_
          rw [if_neg (by omega), if_neg (by omega)]
          exact ⟨rfl, zGr.rf, hR, zOut.rf⟩

