/-! PanSlicesModel: small methods that only read (written by gen/m_mod1.py) -/
theorem C_X1_isIn {G : zG} {S : zS} {m : zMm} {v a z : Int} (hv : zi v) (ha : zi a) (hz : zi z) : zC G mX1_isIn 0 0 0 [zI v, zI a, zI z] S m (zDet (some (zI (zq (a ≤ v ∧ v ≤ z)))) S m) zNX := by
  refine zC.of [zI v, zI a, zI z] (by decide) rfl (zEn1 (zcI _) (zEn1 (zcI _) (zEn1 (zcI _) (zEn0 (by simp))))) rfl ?_
  refine zT.iload_n 0 dX1_isIn_0 rfl rfl ?_
  refine zT.iload_n 1 dX1_isIn_1 rfl rfl ?_
  refine zT.ic_lt (tgt := 14) dX1_isIn_2 (by decide) (by first | assumption | exact zq_i _ | exact zand_i _ _ | exact zor_i _ _ | exact zxor_i _ _ | exact zN _ | omega) (by first | assumption | exact zq_i _ | exact zand_i _ _ | exact zor_i _ _ | exact zxor_i _ _ | exact zN _ | omega) (fun c2 => ?_) (fun c2 => ?_)
  · refine zT.iconst dX1_isIn_14 ?_
    refine zT.zret dX1_isIn_15 rfl (by omega) ?_
    (first | rw [zq_t (by omega)] | rw [zq_f (by omega)]); exact ⟨rfl, rfl, rfl⟩
  · refine zT.iload_n 0 dX1_isIn_5 rfl rfl ?_
    refine zT.iload_n 2 dX1_isIn_6 rfl rfl ?_
    refine zT.ic_gt (tgt := 14) dX1_isIn_7 (by decide) (by first | assumption | exact zq_i _ | exact zand_i _ _ | exact zor_i _ _ | exact zxor_i _ _ | exact zN _ | omega) (by first | assumption | exact zq_i _ | exact zand_i _ _ | exact zor_i _ _ | exact zxor_i _ _ | exact zN _ | omega) (fun c7 => ?_) (fun c7 => ?_)
    · refine zT.iconst dX1_isIn_14 ?_
      refine zT.zret dX1_isIn_15 rfl (by omega) ?_
      (first | rw [zq_t (by omega)] | rw [zq_f (by omega)]); exact ⟨rfl, rfl, rfl⟩
    · refine zT.iconst dX1_isIn_10 ?_
      refine zT.goto (tgt := 15) dX1_isIn_11 (by decide) ?_
      refine zT.zret dX1_isIn_15 rfl (by omega) ?_
      (first | rw [zq_t (by omega)] | rw [zq_f (by omega)]); exact ⟨rfl, rfl, rfl⟩

theorem C_X1_has {G : zG} {S : zS} {m : zMm} {s k : Int} (hs : zi s) (h0 : 0 ≤ k) (h1 : k < 32) : zC G mX1_has 0 0 0 [zI s, zI k] S m (zDet (some (zI (zq (zbit s k)))) S m) zNX := by
  refine zC.of [zI s, zI k] (by decide) rfl (zEn1 (zcI _) (zEn1 (zcI _) (zEn0 (by simp)))) rfl ?_
  refine zT.iload_n 0 dX1_has_0 rfl rfl ?_
  refine zT.iload_n 1 dX1_has_1 rfl rfl ?_
  refine zT.ishr dX1_has_2 (by first | assumption | exact zq_i _ | exact zand_i _ _ | exact zor_i _ _ | exact zxor_i _ _ | exact zN _ | omega) (by first | assumption | exact zq_i _ | exact zand_i _ _ | exact zor_i _ _ | exact zxor_i _ _ | exact zN _ | omega) (by first | assumption | exact zq_i _ | exact zand_i _ _ | exact zor_i _ _ | exact zxor_i _ _ | exact zN _ | omega) ?_
  refine zT.iconst dX1_has_3 ?_
  refine zT.iand dX1_has_4 ?_
  refine zT.iconst dX1_has_5 ?_
  refine zT.ic_ne (tgt := 13) dX1_has_6 (by decide) (by first | assumption | exact zq_i _ | exact zand_i _ _ | exact zor_i _ _ | exact zxor_i _ _ | exact zN _ | omega) (by first | assumption | exact zq_i _ | exact zand_i _ _ | exact zor_i _ _ | exact zxor_i _ _ | exact zN _ | omega) (fun c6 => ?_) (fun c6 => ?_)
  · refine zT.iconst dX1_has_13 ?_
    refine zT.zret dX1_has_14 rfl (by omega) ?_
    unfold zbit; rw [zand_1] at c6; (first | rw [zq_t (by omega)] | rw [zq_f (by omega)]); exact ⟨rfl, rfl, rfl⟩
  · refine zT.iconst dX1_has_9 ?_
    refine zT.goto (tgt := 14) dX1_has_10 (by decide) ?_
    refine zT.zret dX1_has_14 rfl (by omega) ?_
    unfold zbit; rw [zand_1] at c6; (first | rw [zq_t (by omega)] | rw [zq_f (by omega)]); exact ⟨rfl, rfl, rfl⟩

theorem C_X1_areAlike {G : zG} {S : zS} {m : zMm} {n k : Int} (hn : zi n) (hk : zi k) : zC G mX1_areAlike 1 0 0 [zI n, zI k] S m (zDet (some (zI (zq ((1 ≤ n ∧ n ≤ 4000) ∧ 1 ≤ k ∧ k ≤ 60)))) S m) zNX := by
  refine zC.of [zI n, zI k] (by decide) rfl (zEn1 (zcI _) (zEn1 (zcI _) (zEn0 (by simp)))) rfl ?_
  refine zT.iload_n 0 dX1_areAlike_0 rfl rfl ?_
  refine zT.iconst dX1_areAlike_1 ?_
  refine zT.sipush dX1_areAlike_2 ?_
  refine zT.callS (M' := mX1_isIn) [zI n, zI 1, zI 4000] [] dX1_areAlike_5 kX1_231 rfl rfl (C_X1_isIn (by first | assumption | exact zq_i _ | exact zand_i _ _ | exact zor_i _ _ | exact zxor_i _ _ | exact zN _ | omega) (by first | assumption | exact zq_i _ | exact zand_i _ _ | exact zor_i _ _ | exact zxor_i _ _ | exact zN _ | omega) (by first | assumption | exact zq_i _ | exact zand_i _ _ | exact zor_i _ _ | exact zxor_i _ _ | exact zN _ | omega)) (by decide) (k' := 0) (n' := 0) (by omega) (by omega) (by decide) (zdk (v := some (zI (zq (1 ≤ n ∧ n ≤ 4000)))) ?_) (fun _ _ _ _ h => h.elim)
  show zT G _ _ _ _ [zI (zq (1 ≤ n ∧ n ≤ 4000))] _ _ _ _ _ _
  refine zT.if_eqB (tgt := 25) dX1_areAlike_8 (by decide) (fun c8 => ?_) (fun c8 => ?_)
  · refine zT.iconst dX1_areAlike_25 ?_
    refine zT.zret dX1_areAlike_26 rfl (by omega) ?_
    (first | rw [zq_t (by omega)] | rw [zq_f (by omega)]); exact ⟨rfl, rfl, rfl⟩
  · refine zT.iload_n 1 dX1_areAlike_11 rfl rfl ?_
    refine zT.iconst dX1_areAlike_12 ?_
    refine zT.bipush dX1_areAlike_13 ?_
    refine zT.callS (M' := mX1_isIn) [zI k, zI 1, zI 60] [] dX1_areAlike_15 kX1_231 rfl rfl (C_X1_isIn (by first | assumption | exact zq_i _ | exact zand_i _ _ | exact zor_i _ _ | exact zxor_i _ _ | exact zN _ | omega) (by first | assumption | exact zq_i _ | exact zand_i _ _ | exact zor_i _ _ | exact zxor_i _ _ | exact zN _ | omega) (by first | assumption | exact zq_i _ | exact zand_i _ _ | exact zor_i _ _ | exact zxor_i _ _ | exact zN _ | omega)) (by decide) (k' := 0) (n' := 0) (by omega) (by omega) (by decide) (zdk (v := some (zI (zq (1 ≤ k ∧ k ≤ 60)))) ?_) (fun _ _ _ _ h => h.elim)
    show zT G _ _ _ _ [zI (zq (1 ≤ k ∧ k ≤ 60))] _ _ _ _ _ _
    refine zT.if_eqB (tgt := 25) dX1_areAlike_18 (by decide) (fun c18 => ?_) (fun c18 => ?_)
    · refine zT.iconst dX1_areAlike_25 ?_
      refine zT.zret dX1_areAlike_26 rfl (by omega) ?_
      (first | rw [zq_t (by omega)] | rw [zq_f (by omega)]); exact ⟨rfl, rfl, rfl⟩
    · refine zT.iconst dX1_areAlike_21 ?_
      refine zT.goto (tgt := 26) dX1_areAlike_22 (by decide) ?_
      refine zT.zret dX1_areAlike_26 rfl (by omega) ?_
      (first | rw [zq_t (by omega)] | rw [zq_f (by omega)]); exact ⟨rfl, rfl, rfl⟩

theorem C_X13_isIn {G : zG} {S : zS} {m : zMm} {v a z : Int} (hv : zi v) (ha : zi a) (hz : zi z) : zC G mX13_isIn 0 0 0 [zI v, zI a, zI z] S m (zDet (some (zI (zq (a ≤ v ∧ v ≤ z)))) S m) zNX := by
  refine zC.of [zI v, zI a, zI z] (by decide) rfl (zEn1 (zcI _) (zEn1 (zcI _) (zEn1 (zcI _) (zEn0 (by simp))))) rfl ?_
  refine zT.iload_n 0 dX13_isIn_0 rfl rfl ?_
  refine zT.iload_n 1 dX13_isIn_1 rfl rfl ?_
  refine zT.ic_lt (tgt := 14) dX13_isIn_2 (by decide) (by first | assumption | exact zq_i _ | exact zand_i _ _ | exact zor_i _ _ | exact zxor_i _ _ | exact zN _ | omega) (by first | assumption | exact zq_i _ | exact zand_i _ _ | exact zor_i _ _ | exact zxor_i _ _ | exact zN _ | omega) (fun c2 => ?_) (fun c2 => ?_)
  · refine zT.iconst dX13_isIn_14 ?_
    refine zT.zret dX13_isIn_15 rfl (by omega) ?_
    (first | rw [zq_t (by omega)] | rw [zq_f (by omega)]); exact ⟨rfl, rfl, rfl⟩
  · refine zT.iload_n 0 dX13_isIn_5 rfl rfl ?_
    refine zT.iload_n 2 dX13_isIn_6 rfl rfl ?_
    refine zT.ic_gt (tgt := 14) dX13_isIn_7 (by decide) (by first | assumption | exact zq_i _ | exact zand_i _ _ | exact zor_i _ _ | exact zxor_i _ _ | exact zN _ | omega) (by first | assumption | exact zq_i _ | exact zand_i _ _ | exact zor_i _ _ | exact zxor_i _ _ | exact zN _ | omega) (fun c7 => ?_) (fun c7 => ?_)
    · refine zT.iconst dX13_isIn_14 ?_
      refine zT.zret dX13_isIn_15 rfl (by omega) ?_
      (first | rw [zq_t (by omega)] | rw [zq_f (by omega)]); exact ⟨rfl, rfl, rfl⟩
    · refine zT.iconst dX13_isIn_10 ?_
      refine zT.goto (tgt := 15) dX13_isIn_11 (by decide) ?_
      refine zT.zret dX13_isIn_15 rfl (by omega) ?_
      (first | rw [zq_t (by omega)] | rw [zq_f (by omega)]); exact ⟨rfl, rfl, rfl⟩

theorem C_X13_has {G : zG} {S : zS} {m : zMm} {s k : Int} (hs : zi s) (h0 : 0 ≤ k) (h1 : k < 32) : zC G mX13_has 0 0 0 [zI s, zI k] S m (zDet (some (zI (zq (zbit s k)))) S m) zNX := by
  refine zC.of [zI s, zI k] (by decide) rfl (zEn1 (zcI _) (zEn1 (zcI _) (zEn0 (by simp)))) rfl ?_
  refine zT.iload_n 0 dX13_has_0 rfl rfl ?_
  refine zT.iload_n 1 dX13_has_1 rfl rfl ?_
  refine zT.ishr dX13_has_2 (by first | assumption | exact zq_i _ | exact zand_i _ _ | exact zor_i _ _ | exact zxor_i _ _ | exact zN _ | omega) (by first | assumption | exact zq_i _ | exact zand_i _ _ | exact zor_i _ _ | exact zxor_i _ _ | exact zN _ | omega) (by first | assumption | exact zq_i _ | exact zand_i _ _ | exact zor_i _ _ | exact zxor_i _ _ | exact zN _ | omega) ?_
  refine zT.iconst dX13_has_3 ?_
  refine zT.iand dX13_has_4 ?_
  refine zT.iconst dX13_has_5 ?_
  refine zT.ic_ne (tgt := 13) dX13_has_6 (by decide) (by first | assumption | exact zq_i _ | exact zand_i _ _ | exact zor_i _ _ | exact zxor_i _ _ | exact zN _ | omega) (by first | assumption | exact zq_i _ | exact zand_i _ _ | exact zor_i _ _ | exact zxor_i _ _ | exact zN _ | omega) (fun c6 => ?_) (fun c6 => ?_)
  · refine zT.iconst dX13_has_13 ?_
    refine zT.zret dX13_has_14 rfl (by omega) ?_
    unfold zbit; rw [zand_1] at c6; (first | rw [zq_t (by omega)] | rw [zq_f (by omega)]); exact ⟨rfl, rfl, rfl⟩
  · refine zT.iconst dX13_has_9 ?_
    refine zT.goto (tgt := 14) dX13_has_10 (by decide) ?_
    refine zT.zret dX13_has_14 rfl (by omega) ?_
    unfold zbit; rw [zand_1] at c6; (first | rw [zq_t (by omega)] | rw [zq_f (by omega)]); exact ⟨rfl, rfl, rfl⟩

theorem C_X13_areAlike {G : zG} {S : zS} {m : zMm} {n k : Int} (hn : zi n) (hk : zi k) : zC G mX13_areAlike 1 0 0 [zI n, zI k] S m (zDet (some (zI (zq ((1 ≤ n ∧ n ≤ 4000) ∧ 1 ≤ k ∧ k ≤ 60)))) S m) zNX := by
  refine zC.of [zI n, zI k] (by decide) rfl (zEn1 (zcI _) (zEn1 (zcI _) (zEn0 (by simp)))) rfl ?_
  refine zT.iload_n 0 dX13_areAlike_0 rfl rfl ?_
  refine zT.iconst dX13_areAlike_1 ?_
  refine zT.sipush dX13_areAlike_2 ?_
  refine zT.callS (M' := mX13_isIn) [zI n, zI 1, zI 4000] [] dX13_areAlike_5 kX13_189 rfl rfl (C_X13_isIn (by first | assumption | exact zq_i _ | exact zand_i _ _ | exact zor_i _ _ | exact zxor_i _ _ | exact zN _ | omega) (by first | assumption | exact zq_i _ | exact zand_i _ _ | exact zor_i _ _ | exact zxor_i _ _ | exact zN _ | omega) (by first | assumption | exact zq_i _ | exact zand_i _ _ | exact zor_i _ _ | exact zxor_i _ _ | exact zN _ | omega)) (by decide) (k' := 0) (n' := 0) (by omega) (by omega) (by decide) (zdk (v := some (zI (zq (1 ≤ n ∧ n ≤ 4000)))) ?_) (fun _ _ _ _ h => h.elim)
  show zT G _ _ _ _ [zI (zq (1 ≤ n ∧ n ≤ 4000))] _ _ _ _ _ _
  refine zT.if_eqB (tgt := 25) dX13_areAlike_8 (by decide) (fun c8 => ?_) (fun c8 => ?_)
  · refine zT.iconst dX13_areAlike_25 ?_
    refine zT.zret dX13_areAlike_26 rfl (by omega) ?_
    (first | rw [zq_t (by omega)] | rw [zq_f (by omega)]); exact ⟨rfl, rfl, rfl⟩
  · refine zT.iload_n 1 dX13_areAlike_11 rfl rfl ?_
    refine zT.iconst dX13_areAlike_12 ?_
    refine zT.bipush dX13_areAlike_13 ?_
    refine zT.callS (M' := mX13_isIn) [zI k, zI 1, zI 60] [] dX13_areAlike_15 kX13_189 rfl rfl (C_X13_isIn (by first | assumption | exact zq_i _ | exact zand_i _ _ | exact zor_i _ _ | exact zxor_i _ _ | exact zN _ | omega) (by first | assumption | exact zq_i _ | exact zand_i _ _ | exact zor_i _ _ | exact zxor_i _ _ | exact zN _ | omega) (by first | assumption | exact zq_i _ | exact zand_i _ _ | exact zor_i _ _ | exact zxor_i _ _ | exact zN _ | omega)) (by decide) (k' := 0) (n' := 0) (by omega) (by omega) (by decide) (zdk (v := some (zI (zq (1 ≤ k ∧ k ≤ 60)))) ?_) (fun _ _ _ _ h => h.elim)
    show zT G _ _ _ _ [zI (zq (1 ≤ k ∧ k ≤ 60))] _ _ _ _ _ _
    refine zT.if_eqB (tgt := 25) dX13_areAlike_18 (by decide) (fun c18 => ?_) (fun c18 => ?_)
    · refine zT.iconst dX13_areAlike_25 ?_
      refine zT.zret dX13_areAlike_26 rfl (by omega) ?_
      (first | rw [zq_t (by omega)] | rw [zq_f (by omega)]); exact ⟨rfl, rfl, rfl⟩
    · refine zT.iconst dX13_areAlike_21 ?_
      refine zT.goto (tgt := 26) dX13_areAlike_22 (by decide) ?_
      refine zT.zret dX13_areAlike_26 rfl (by omega) ?_
      (first | rw [zq_t (by omega)] | rw [zq_f (by omega)]); exact ⟨rfl, rfl, rfl⟩

theorem C_X13_up {G : zG} {S : zS} {m : zMm} {a b : Int} (h0 : 0 ≤ a) (h1 : a ≤ 1000000) (h2 : 1 ≤ b) (h3 : b ≤ 1000000) : zC G mX13_up 0 0 0 [zI a, zI b] S m (zDet (some (zI ((a + b - 1) / b))) S m) zNX := by
  refine zC.of [zI a, zI b] (by decide) rfl (zEn1 (zcI _) (zEn1 (zcI _) (zEn0 (by simp)))) rfl ?_
  refine zT.iload_n 0 dX13_up_0 rfl rfl ?_
  refine zT.iload_n 1 dX13_up_1 rfl rfl ?_
  refine zT.iadd dX13_up_2 ?_
  refine zT.iconst dX13_up_3 ?_
  refine zT.isub dX13_up_4 ?_
  refine zT.iload_n 1 dX13_up_5 rfl rfl ?_
  refine zT.idiv dX13_up_6 (by first | assumption | exact zq_i _ | exact zand_i _ _ | exact zor_i _ _ | exact zxor_i _ _ | exact zN _ | omega) (by first | assumption | exact zq_i _ | exact zand_i _ _ | exact zor_i _ _ | exact zxor_i _ _ | exact zN _ | omega) (by first | assumption | exact zq_i _ | exact zand_i _ _ | exact zor_i _ _ | exact zxor_i _ _ | exact zN _ | omega) (by first | assumption | exact zq_i _ | exact zand_i _ _ | exact zor_i _ _ | exact zxor_i _ _ | exact zN _ | omega) ?_
  refine zT.iret dX13_up_7 rfl ?_
  exact ⟨rfl, rfl, rfl⟩

theorem C_X13_most {G : zG} {S : zS} {m : zMm} {a b : Int} (ha : zi a) (hb : zi b) : zC G mX13_most 0 0 0 [zI a, zI b] S m (zDet (some (zI (max a b))) S m) zNX := by
  refine zC.of [zI a, zI b] (by decide) rfl (zEn1 (zcI _) (zEn1 (zcI _) (zEn0 (by simp)))) rfl ?_
  refine zT.iload_n 0 dX13_most_0 rfl rfl ?_
  refine zT.iload_n 1 dX13_most_1 rfl rfl ?_
  refine zT.ic_le (tgt := 9) dX13_most_2 (by decide) (by first | assumption | exact zq_i _ | exact zand_i _ _ | exact zor_i _ _ | exact zxor_i _ _ | exact zN _ | omega) (by first | assumption | exact zq_i _ | exact zand_i _ _ | exact zor_i _ _ | exact zxor_i _ _ | exact zN _ | omega) (fun c2 => ?_) (fun c2 => ?_)
  · refine zT.iload_n 1 dX13_most_9 rfl rfl ?_
    refine zT.iret dX13_most_10 rfl ?_
    first | exact ⟨by rw [show max a b = a by omega], rfl, rfl⟩ | exact ⟨by rw [show max a b = b by omega], rfl, rfl⟩
  · refine zT.iload_n 0 dX13_most_5 rfl rfl ?_
    refine zT.goto (tgt := 10) dX13_most_6 (by decide) ?_
    refine zT.iret dX13_most_10 rfl ?_
    first | exact ⟨by rw [show max a b = a by omega], rfl, rfl⟩ | exact ⟨by rw [show max a b = b by omega], rfl, rfl⟩

theorem C_X13_overlap {G : zG} {S : zS} {m : zMm} {a n b p : Int} (ha : zi a) (hb : zi b) (h1 : zi (b + p)) (h2 : zi (a + n)) : zC G mX13_overlap 0 0 0 [zI a, zI n, zI b, zI p] S m (zDet (some (zI (zq (a < b + p ∧ b < a + n)))) S m) zNX := by
  refine zC.of [zI a, zI n, zI b, zI p] (by decide) rfl (zEn1 (zcI _) (zEn1 (zcI _) (zEn1 (zcI _) (zEn1 (zcI _) (zEn0 (by simp)))))) rfl ?_
  refine zT.iload_n 0 dX13_overlap_0 rfl rfl ?_
  refine zT.iload_n 2 dX13_overlap_1 rfl rfl ?_
  refine zT.iload_n 3 dX13_overlap_2 rfl rfl ?_
  refine zT.iadd dX13_overlap_3 ?_
  refine zT.ic_ge (tgt := 18) dX13_overlap_4 (by decide) (by first | assumption | exact zq_i _ | exact zand_i _ _ | exact zor_i _ _ | exact zxor_i _ _ | exact zN _ | omega) (by first | assumption | exact zq_i _ | exact zand_i _ _ | exact zor_i _ _ | exact zxor_i _ _ | exact zN _ | omega) (fun c4 => ?_) (fun c4 => ?_)
  · refine zT.iconst dX13_overlap_18 ?_
    refine zT.zret dX13_overlap_19 rfl (by omega) ?_
    (first | rw [zq_t (by omega)] | rw [zq_f (by omega)]); exact ⟨rfl, rfl, rfl⟩
  · refine zT.iload_n 2 dX13_overlap_7 rfl rfl ?_
    refine zT.iload_n 0 dX13_overlap_8 rfl rfl ?_
    refine zT.iload_n 1 dX13_overlap_9 rfl rfl ?_
    refine zT.iadd dX13_overlap_10 ?_
    refine zT.ic_ge (tgt := 18) dX13_overlap_11 (by decide) (by first | assumption | exact zq_i _ | exact zand_i _ _ | exact zor_i _ _ | exact zxor_i _ _ | exact zN _ | omega) (by first | assumption | exact zq_i _ | exact zand_i _ _ | exact zor_i _ _ | exact zxor_i _ _ | exact zN _ | omega) (fun c11 => ?_) (fun c11 => ?_)
    · refine zT.iconst dX13_overlap_18 ?_
      refine zT.zret dX13_overlap_19 rfl (by omega) ?_
      (first | rw [zq_t (by omega)] | rw [zq_f (by omega)]); exact ⟨rfl, rfl, rfl⟩
    · refine zT.iconst dX13_overlap_14 ?_
      refine zT.goto (tgt := 19) dX13_overlap_15 (by decide) ?_
      refine zT.zret dX13_overlap_19 rfl (by omega) ?_
      (first | rw [zq_t (by omega)] | rw [zq_f (by omega)]); exact ⟨rfl, rfl, rfl⟩

theorem C_X13_isDigit {G : zG} {S : zS} {m : zMm} {c : Int} (hc : zi c) : zC G mX13_isDigit 0 0 0 [zI c] S m (zDet (some (zI (zq (48 ≤ c ∧ c ≤ 57)))) S m) zNX := by
  refine zC.of [zI c] (by decide) rfl (zEn1 (zcI _) (zEn0 (by simp))) rfl ?_
  refine zT.iload_n 0 dX13_isDigit_0 rfl rfl ?_
  refine zT.bipush dX13_isDigit_1 ?_
  refine zT.ic_lt (tgt := 16) dX13_isDigit_3 (by decide) (by first | assumption | exact zq_i _ | exact zand_i _ _ | exact zor_i _ _ | exact zxor_i _ _ | exact zN _ | omega) (by first | assumption | exact zq_i _ | exact zand_i _ _ | exact zor_i _ _ | exact zxor_i _ _ | exact zN _ | omega) (fun c3 => ?_) (fun c3 => ?_)
  · refine zT.iconst dX13_isDigit_16 ?_
    refine zT.zret dX13_isDigit_17 rfl (by omega) ?_
    (first | rw [zq_t (by omega)] | rw [zq_f (by omega)]); exact ⟨rfl, rfl, rfl⟩
  · refine zT.iload_n 0 dX13_isDigit_6 rfl rfl ?_
    refine zT.bipush dX13_isDigit_7 ?_
    refine zT.ic_gt (tgt := 16) dX13_isDigit_9 (by decide) (by first | assumption | exact zq_i _ | exact zand_i _ _ | exact zor_i _ _ | exact zxor_i _ _ | exact zN _ | omega) (by first | assumption | exact zq_i _ | exact zand_i _ _ | exact zor_i _ _ | exact zxor_i _ _ | exact zN _ | omega) (fun c9 => ?_) (fun c9 => ?_)
    · refine zT.iconst dX13_isDigit_16 ?_
      refine zT.zret dX13_isDigit_17 rfl (by omega) ?_
      (first | rw [zq_t (by omega)] | rw [zq_f (by omega)]); exact ⟨rfl, rfl, rfl⟩
    · refine zT.iconst dX13_isDigit_12 ?_
      refine zT.goto (tgt := 17) dX13_isDigit_13 (by decide) ?_
      refine zT.zret dX13_isDigit_17 rfl (by omega) ?_
      (first | rw [zq_t (by omega)] | rw [zq_f (by omega)]); exact ⟨rfl, rfl, rfl⟩

theorem C_X13_isLetter {G : zG} {S : zS} {m : zMm} {c : Int} (hc : zi c) : zC G mX13_isLetter 0 0 0 [zI c] S m (zDet (some (zI (zq (97 ≤ c ∧ c ≤ 122)))) S m) zNX := by
  refine zC.of [zI c] (by decide) rfl (zEn1 (zcI _) (zEn0 (by simp))) rfl ?_
  refine zT.iload_n 0 dX13_isLetter_0 rfl rfl ?_
  refine zT.bipush dX13_isLetter_1 ?_
  refine zT.ic_lt (tgt := 16) dX13_isLetter_3 (by decide) (by first | assumption | exact zq_i _ | exact zand_i _ _ | exact zor_i _ _ | exact zxor_i _ _ | exact zN _ | omega) (by first | assumption | exact zq_i _ | exact zand_i _ _ | exact zor_i _ _ | exact zxor_i _ _ | exact zN _ | omega) (fun c3 => ?_) (fun c3 => ?_)
  · refine zT.iconst dX13_isLetter_16 ?_
    refine zT.zret dX13_isLetter_17 rfl (by omega) ?_
    (first | rw [zq_t (by omega)] | rw [zq_f (by omega)]); exact ⟨rfl, rfl, rfl⟩
  · refine zT.iload_n 0 dX13_isLetter_6 rfl rfl ?_
    refine zT.bipush dX13_isLetter_7 ?_
    refine zT.ic_gt (tgt := 16) dX13_isLetter_9 (by decide) (by first | assumption | exact zq_i _ | exact zand_i _ _ | exact zor_i _ _ | exact zxor_i _ _ | exact zN _ | omega) (by first | assumption | exact zq_i _ | exact zand_i _ _ | exact zor_i _ _ | exact zxor_i _ _ | exact zN _ | omega) (fun c9 => ?_) (fun c9 => ?_)
    · refine zT.iconst dX13_isLetter_16 ?_
      refine zT.zret dX13_isLetter_17 rfl (by omega) ?_
      (first | rw [zq_t (by omega)] | rw [zq_f (by omega)]); exact ⟨rfl, rfl, rfl⟩
    · refine zT.iconst dX13_isLetter_12 ?_
      refine zT.goto (tgt := 17) dX13_isLetter_13 (by decide) ?_
      refine zT.zret dX13_isLetter_17 rfl (by omega) ?_
      (first | rw [zq_t (by omega)] | rw [zq_f (by omega)]); exact ⟨rfl, rfl, rfl⟩

theorem C_X13_thrown {G : zG} {S : zS} {m : zMm} {b : Int} (hb : zMod S b)  : zC G mX13_thrown 0 0 0 [zR b] S m (zDet (some (zI (m b 1000))) S m) zNX := by
  refine zC.of [zR b] (by decide) rfl (zEn1 (zcR _) (zEn0 (by simp))) rfl ?_
  refine zT.rng hb.a1014 (fun zN => ?_)
  refine zT.aload_n 0 dX13_thrown_0 rfl rfl ?_
  refine zT.getI dX13_thrown_1 fX13_122 rfl (zMod.k hb) (j := 0) (by decide) rfl (fun z1 => ?_)
  refine zT.iret dX13_thrown_4 rfl ?_
  exact ⟨rfl, rfl, rfl⟩

theorem C_X13_slices {G : zG} {S : zS} {m : zMm} {b : Int} (hb : zMod S b)  : zC G mX13_slices 0 0 0 [zR b] S m (zDet (some (zI (m (b + 2) (5)))) S m) zNX := by
  refine zC.of [zR b] (by decide) rfl (zEn1 (zcR _) (zEn0 (by simp))) rfl ?_
  refine zT.rng hb.a1014 (fun zN => ?_)
  refine zT.aload_n 0 dX13_slices_0 rfl rfl ?_
  refine zT.getF dX13_slices_1 fX13_13 rfl (zMod.k hb) (j := 14) (by decide) rfl (zMod.f1014 hb) ?_
  refine zT.iconst dX13_slices_4 ?_
  refine zT.iald dX13_slices_5 (zMod.a1014 hb) (by first | assumption | exact zq_i _ | exact zand_i _ _ | exact zor_i _ _ | exact zxor_i _ _ | exact zN _ | omega) (by rw [(zMod.n1014 hb)]; first | assumption | exact zq_i _ | exact zand_i _ _ | exact zor_i _ _ | exact zxor_i _ _ | exact zN _ | omega) (fun z5 => ?_)
  refine zT.iret dX13_slices_6 rfl ?_
  exact ⟨rfl, rfl, rfl⟩

theorem C_X13_goes {G : zG} {S : zS} {m : zMm} {b : Int} (hb : zMod S b)  : zC G mX13_goes 0 0 0 [zR b] S m (zDet (some (zI (m (b + 2) (58)))) S m) zNX := by
  refine zC.of [zR b] (by decide) rfl (zEn1 (zcR _) (zEn0 (by simp))) rfl ?_
  refine zT.rng hb.a1014 (fun zN => ?_)
  refine zT.aload_n 0 dX13_goes_0 rfl rfl ?_
  refine zT.getF dX13_goes_1 fX13_13 rfl (zMod.k hb) (j := 14) (by decide) rfl (zMod.f1014 hb) ?_
  refine zT.bipush dX13_goes_4 ?_
  refine zT.iald dX13_goes_6 (zMod.a1014 hb) (by first | assumption | exact zq_i _ | exact zand_i _ _ | exact zor_i _ _ | exact zxor_i _ _ | exact zN _ | omega) (by rw [(zMod.n1014 hb)]; first | assumption | exact zq_i _ | exact zand_i _ _ | exact zor_i _ _ | exact zxor_i _ _ | exact zN _ | omega) (fun z6 => ?_)
  refine zT.iret dX13_goes_7 rfl ?_
  exact ⟨rfl, rfl, rfl⟩

theorem C_X13_isSlice {G : zG} {S : zS} {m : zMm} {b : Int} (hb : zMod S b) {s : Int} (hs : zi s) : zC G mX13_isSlice 1 0 0 [zR b, zI s] S m (zDet (some (zI (zq (0 ≤ s ∧ s < m (b + 2) (5))))) S m) zNX := by
  refine zC.of [zR b, zI s] (by decide) rfl (zEn1 (zcR _) (zEn1 (zcI _) (zEn0 (by simp)))) rfl ?_
  refine zT.rng hb.a1014 (fun zN => ?_)
  refine zT.iload_n 1 dX13_isSlice_0 rfl rfl ?_
  refine zT.if_lt (tgt := 16) dX13_isSlice_1 (by decide) (by first | assumption | exact zq_i _ | exact zand_i _ _ | exact zor_i _ _ | exact zxor_i _ _ | exact zN _ | omega) (fun c1 => ?_) (fun c1 => ?_)
  · refine zT.iconst dX13_isSlice_16 ?_
    refine zT.zret dX13_isSlice_17 rfl (by omega) ?_
    (first | rw [zq_t (by omega)] | rw [zq_f (by omega)]); exact ⟨rfl, rfl, rfl⟩
  · refine zT.iload_n 1 dX13_isSlice_4 rfl rfl ?_
    refine zT.aload_n 0 dX13_isSlice_5 rfl rfl ?_
    refine zT.callV (M' := mX13_slices) (b := b) [] [zI s] dX13_isSlice_6 kX13_271 rfl rfl (ci := 10) (r := (RX13, TX13, 62)) rfl (zMod.k hb) (C_X13_slices hb) (by decide) (k' := 0) (n' := 0) (by omega) (by omega) (by simp only [List.map, zcI, zcJ, zcR, List.sum_cons, List.sum_nil]; decide) (zdk (v := some (zI (m (b + 2) (5)))) ?_) (fun _ _ _ _ h => h.elim)
    show zT G _ _ _ _ [zI (m (b + 2) (5)), zI s] _ _ _ _ _ _
    refine zT.ic_ge (tgt := 16) dX13_isSlice_9 (by decide) (by first | assumption | exact zq_i _ | exact zand_i _ _ | exact zor_i _ _ | exact zxor_i _ _ | exact zN _ | omega) (by first | assumption | exact zq_i _ | exact zand_i _ _ | exact zor_i _ _ | exact zxor_i _ _ | exact zN _ | omega) (fun c9 => ?_) (fun c9 => ?_)
    · refine zT.iconst dX13_isSlice_16 ?_
      refine zT.zret dX13_isSlice_17 rfl (by omega) ?_
      (first | rw [zq_t (by omega)] | rw [zq_f (by omega)]); exact ⟨rfl, rfl, rfl⟩
    · refine zT.iconst dX13_isSlice_12 ?_
      refine zT.goto (tgt := 17) dX13_isSlice_13 (by decide) ?_
      refine zT.zret dX13_isSlice_17 rfl (by omega) ?_
      (first | rw [zq_t (by omega)] | rw [zq_f (by omega)]); exact ⟨rfl, rfl, rfl⟩

theorem C_X13_needs {G : zG} {S : zS} {m : zMm} {b : Int} (hb : zMod S b) {s c : Int} (hs : 0 ≤ s ∧ s < 8) (hc : 0 ≤ c ∧ c < 3) : zC G mX13_needs 0 0 0 [zR b, zI s, zI c] S m (zDet (some (zI (m (b + 2) (8 + 3 * s + c)))) S m) zNX := by
  refine zC.of [zR b, zI s, zI c] (by decide) rfl (zEn1 (zcR _) (zEn1 (zcI _) (zEn1 (zcI _) (zEn0 (by simp))))) rfl ?_
  refine zT.rng hb.a1014 (fun zN => ?_)
  refine zT.aload_n 0 dX13_needs_0 rfl rfl ?_
  refine zT.getF dX13_needs_1 fX13_13 rfl (zMod.k hb) (j := 14) (by decide) rfl (zMod.f1014 hb) ?_
  refine zT.bipush dX13_needs_4 ?_
  refine zT.iconst dX13_needs_6 ?_
  refine zT.iload_n 1 dX13_needs_7 rfl rfl ?_
  refine zT.imul dX13_needs_8 ?_
  refine zT.iadd dX13_needs_9 ?_
  refine zT.iload_n 2 dX13_needs_10 rfl rfl ?_
  refine zT.iadd dX13_needs_11 ?_
  refine zT.iald dX13_needs_12 (zMod.a1014 hb) (by first | assumption | exact zq_i _ | exact zand_i _ _ | exact zor_i _ _ | exact zxor_i _ _ | exact zN _ | omega) (by rw [(zMod.n1014 hb)]; first | assumption | exact zq_i _ | exact zand_i _ _ | exact zor_i _ _ | exact zxor_i _ _ | exact zN _ | omega) (fun z12 => ?_)
  refine zT.iret dX13_needs_13 rfl ?_
  exact ⟨rfl, rfl, rfl⟩

theorem C_X13_isOnce {G : zG} {S : zS} {m : zMm} {b : Int} (hb : zMod S b) {s : Int} (hs : 0 ≤ s ∧ s < 8) : zC G mX13_isOnce 0 0 0 [zR b, zI s] S m (zDet (some (zI (zq (0 < m (b + 2) (8 + 3 * s + 2))))) S m) zNX := by
  refine zC.of [zR b, zI s] (by decide) rfl (zEn1 (zcR _) (zEn1 (zcI _) (zEn0 (by simp)))) rfl ?_
  refine zT.rng hb.a1014 (fun zN => ?_)
  refine zT.aload_n 0 dX13_isOnce_0 rfl rfl ?_
  refine zT.getF dX13_isOnce_1 fX13_13 rfl (zMod.k hb) (j := 14) (by decide) rfl (zMod.f1014 hb) ?_
  refine zT.bipush dX13_isOnce_4 ?_
  refine zT.iconst dX13_isOnce_6 ?_
  refine zT.iload_n 1 dX13_isOnce_7 rfl rfl ?_
  refine zT.imul dX13_isOnce_8 ?_
  refine zT.iadd dX13_isOnce_9 ?_
  refine zT.iconst dX13_isOnce_10 ?_
  refine zT.iadd dX13_isOnce_11 ?_
  refine zT.iald dX13_isOnce_12 (zMod.a1014 hb) (by first | assumption | exact zq_i _ | exact zand_i _ _ | exact zor_i _ _ | exact zxor_i _ _ | exact zN _ | omega) (by rw [(zMod.n1014 hb)]; first | assumption | exact zq_i _ | exact zand_i _ _ | exact zor_i _ _ | exact zxor_i _ _ | exact zN _ | omega) (fun z12 => ?_)
  refine zT.if_le (tgt := 20) dX13_isOnce_13 (by decide) (by first | assumption | exact zq_i _ | exact zand_i _ _ | exact zor_i _ _ | exact zxor_i _ _ | exact zN _ | omega) (fun c13 => ?_) (fun c13 => ?_)
  · refine zT.iconst dX13_isOnce_20 ?_
    refine zT.zret dX13_isOnce_21 rfl (by omega) ?_
    (first | rw [zq_t (by omega)] | rw [zq_f (by omega)]); exact ⟨rfl, rfl, rfl⟩
  · refine zT.iconst dX13_isOnce_16 ?_
    refine zT.goto (tgt := 21) dX13_isOnce_17 (by decide) ?_
    refine zT.zret dX13_isOnce_21 rfl (by omega) ?_
    (first | rw [zq_t (by omega)] | rw [zq_f (by omega)]); exact ⟨rfl, rfl, rfl⟩

theorem C_X13_go5 {G : zG} {S : zS} {m : zMm} {b : Int} (hb : zMod S b) {k w : Int} (hk : 0 ≤ k ∧ k < 400) (hw : 0 ≤ w ∧ w < 5) : zC G mX13_go5 0 0 0 [zR b, zI k, zI w] S m (zDet (some (zI (m (b + 2) (59 + 5 * k + w)))) S m) zNX := by
  refine zC.of [zR b, zI k, zI w] (by decide) rfl (zEn1 (zcR _) (zEn1 (zcI _) (zEn1 (zcI _) (zEn0 (by simp))))) rfl ?_
  refine zT.rng hb.a1014 (fun zN => ?_)
  refine zT.aload_n 0 dX13_go5_0 rfl rfl ?_
  refine zT.getF dX13_go5_1 fX13_13 rfl (zMod.k hb) (j := 14) (by decide) rfl (zMod.f1014 hb) ?_
  refine zT.bipush dX13_go5_4 ?_
  refine zT.iconst dX13_go5_6 ?_
  refine zT.iload_n 1 dX13_go5_7 rfl rfl ?_
  refine zT.imul dX13_go5_8 ?_
  refine zT.iadd dX13_go5_9 ?_
  refine zT.iload_n 2 dX13_go5_10 rfl rfl ?_
  refine zT.iadd dX13_go5_11 ?_
  refine zT.iald dX13_go5_12 (zMod.a1014 hb) (by first | assumption | exact zq_i _ | exact zand_i _ _ | exact zor_i _ _ | exact zxor_i _ _ | exact zN _ | omega) (by rw [(zMod.n1014 hb)]; first | assumption | exact zq_i _ | exact zand_i _ _ | exact zor_i _ _ | exact zxor_i _ _ | exact zN _ | omega) (fun z12 => ?_)
  refine zT.iret dX13_go5_13 rfl ?_
  exact ⟨rfl, rfl, rfl⟩

theorem C_X13_from {G : zG} {S : zS} {m : zMm} {b : Int} (hb : zMod S b) {k : Int} (hk : 0 ≤ k ∧ k < 400) : zC G mX13_from 1 0 0 [zR b, zI k] S m (zDet (some (zI (m (b + 2) (59 + 5 * k + 2)))) S m) zNX := by
  refine zC.of [zR b, zI k] (by decide) rfl (zEn1 (zcR _) (zEn1 (zcI _) (zEn0 (by simp)))) rfl ?_
  refine zT.rng hb.a1014 (fun zN => ?_)
  refine zT.aload_n 0 dX13_from_0 rfl rfl ?_
  refine zT.iload_n 1 dX13_from_1 rfl rfl ?_
  refine zT.iconst dX13_from_2 ?_
  refine zT.callV (M' := mX13_go5) (b := b) [zI k, zI 2] [] dX13_from_3 kX13_280 rfl rfl (ci := 10) (r := (RX13, TX13, 62)) rfl (zMod.k hb) (C_X13_go5 hb (by first | assumption | exact zq_i _ | exact zand_i _ _ | exact zor_i _ _ | exact zxor_i _ _ | exact zN _ | omega) (by first | assumption | exact zq_i _ | exact zand_i _ _ | exact zor_i _ _ | exact zxor_i _ _ | exact zN _ | omega)) (by decide) (k' := 0) (n' := 0) (by omega) (by omega) (by decide) (zdk (v := some (zI (m (b + 2) (59 + 5 * k + 2)))) ?_) (fun _ _ _ _ h => h.elim)
  show zT G _ _ _ _ [zI (m (b + 2) (59 + 5 * k + 2))] _ _ _ _ _ _
  refine zT.iret dX13_from_6 rfl ?_
  exact ⟨rfl, rfl, rfl⟩

theorem C_X13_behind {G : zG} {S : zS} {m : zMm} {b : Int} (hb : zMod S b) {k : Int} (hk : 0 ≤ k ∧ k < 400) : zC G mX13_behind 1 0 0 [zR b, zI k] S m (zDet (some (zI (m (b + 2) (59 + 5 * k + 2) + m (b + 2) (59 + 5 * k + 4)))) S m) zNX := by
  refine zC.of [zR b, zI k] (by decide) rfl (zEn1 (zcR _) (zEn1 (zcI _) (zEn0 (by simp)))) rfl ?_
  refine zT.rng hb.a1014 (fun zN => ?_)
  refine zT.aload_n 0 dX13_behind_0 rfl rfl ?_
  refine zT.iload_n 1 dX13_behind_1 rfl rfl ?_
  refine zT.iconst dX13_behind_2 ?_
  refine zT.callV (M' := mX13_go5) (b := b) [zI k, zI 2] [] dX13_behind_3 kX13_280 rfl rfl (ci := 10) (r := (RX13, TX13, 62)) rfl (zMod.k hb) (C_X13_go5 hb (by first | assumption | exact zq_i _ | exact zand_i _ _ | exact zor_i _ _ | exact zxor_i _ _ | exact zN _ | omega) (by first | assumption | exact zq_i _ | exact zand_i _ _ | exact zor_i _ _ | exact zxor_i _ _ | exact zN _ | omega)) (by decide) (k' := 0) (n' := 0) (by omega) (by omega) (by decide) (zdk (v := some (zI (m (b + 2) (59 + 5 * k + 2)))) ?_) (fun _ _ _ _ h => h.elim)
  show zT G _ _ _ _ [zI (m (b + 2) (59 + 5 * k + 2))] _ _ _ _ _ _
  refine zT.aload_n 0 dX13_behind_6 rfl rfl ?_
  refine zT.iload_n 1 dX13_behind_7 rfl rfl ?_
  refine zT.iconst dX13_behind_8 ?_
  refine zT.callV (M' := mX13_go5) (b := b) [zI k, zI 4] [zI (m (b + 2) (59 + 5 * k + 2))] dX13_behind_9 kX13_280 rfl rfl (ci := 10) (r := (RX13, TX13, 62)) rfl (zMod.k hb) (C_X13_go5 hb (by first | assumption | exact zq_i _ | exact zand_i _ _ | exact zor_i _ _ | exact zxor_i _ _ | exact zN _ | omega) (by first | assumption | exact zq_i _ | exact zand_i _ _ | exact zor_i _ _ | exact zxor_i _ _ | exact zN _ | omega)) (by decide) (k' := 0) (n' := 0) (by omega) (by omega) (by simp only [List.map, zcI, zcJ, zcR, List.sum_cons, List.sum_nil]; decide) (zdk (v := some (zI (m (b + 2) (59 + 5 * k + 4)))) ?_) (fun _ _ _ _ h => h.elim)
  show zT G _ _ _ _ [zI (m (b + 2) (59 + 5 * k + 4)), zI (m (b + 2) (59 + 5 * k + 2))] _ _ _ _ _ _
  refine zT.iadd dX13_behind_12 ?_
  refine zT.iret dX13_behind_13 rfl ?_
  exact ⟨rfl, rfl, rfl⟩

/-- the model's row in range -/
def zRow (m : zMm) (b : Int) : Prop := 0 ≤ m (b + 2) 5 ∧ m (b + 2) 5 ≤ 8 ∧ 0 ≤ m (b + 2) 6 ∧ m (b + 2) 6 ≤ 8 ∧ 0 ≤ m (b + 2) 7 ∧ m (b + 2) 7 ≤ 5 ∧ 0 ≤ m (b + 2) 58 ∧ m (b + 2) 58 ≤ 400 ∧
  (∀ s c, 0 ≤ s → s < m (b + 2) 5 → 0 ≤ c → c < 2 → 1 ≤ m (b + 2) (8 + 3 * s + c) ∧ m (b + 2) (8 + 3 * s + c) ≤ 20) ∧
  (∀ k, 0 ≤ k → k < m (b + 2) 58 → 0 ≤ m (b + 2) (59 + 5 * k + 0) ∧ m (b + 2) (59 + 5 * k + 0) < 8 ∧ 0 ≤ m (b + 2) (59 + 5 * k + 1) ∧ m (b + 2) (59 + 5 * k + 1) < 2 ∧ 0 ≤ m (b + 2) (59 + 5 * k + 2) ∧ m (b + 2) (59 + 5 * k + 2) ≤ 1000 ∧ 0 ≤ m (b + 2) (59 + 5 * k + 3) ∧ m (b + 2) (59 + 5 * k + 3) < 4 ∧ 1 ≤ m (b + 2) (59 + 5 * k + 4) ∧ m (b + 2) (59 + 5 * k + 4) ≤ 400)
theorem zRow.mi {m : zMm} {b : Int} (h : zRow m b) : ∀ s c, 0 ≤ s → s < m (b + 2) 5 → 0 ≤ c → c < 2 → 1 ≤ m (b + 2) (8 + 3 * s + c) ∧ m (b + 2) (8 + 3 * s + c) ≤ 20 := h.2.2.2.2.2.2.2.2.1
theorem zRow.go {m : zMm} {b : Int} (h : zRow m b) : ∀ k, 0 ≤ k → k < m (b + 2) 58 → 0 ≤ m (b + 2) (59 + 5 * k + 0) ∧ m (b + 2) (59 + 5 * k + 0) < 8 ∧ 0 ≤ m (b + 2) (59 + 5 * k + 1) ∧ m (b + 2) (59 + 5 * k + 1) < 2 ∧ 0 ≤ m (b + 2) (59 + 5 * k + 2) ∧ m (b + 2) (59 + 5 * k + 2) ≤ 1000 ∧ 0 ≤ m (b + 2) (59 + 5 * k + 3) ∧ m (b + 2) (59 + 5 * k + 3) < 4 ∧ 1 ≤ m (b + 2) (59 + 5 * k + 4) ∧ m (b + 2) (59 + 5 * k + 4) ≤ 400 := h.2.2.2.2.2.2.2.2.2
theorem zRow.nu {m : zMm} {b : Int} (h : zRow m b) : 0 ≤ m (b + 2) 5 ∧ m (b + 2) 5 ≤ 8 ∧ 0 ≤ m (b + 2) 6 ∧ m (b + 2) 6 ≤ 8 ∧ 0 ≤ m (b + 2) 7 ∧ m (b + 2) 7 ≤ 5 ∧ 0 ≤ m (b + 2) 58 ∧ m (b + 2) 58 ≤ 400 := ⟨h.1, h.2.1, h.2.2.1, h.2.2.2.1, h.2.2.2.2.1, h.2.2.2.2.2.1, h.2.2.2.2.2.2.1, h.2.2.2.2.2.2.2.1⟩
def yhad (m : zMm) (b s c : Int) : Int → Int := zs (fun k => if m (b + 2) (59 + 5 * k + 0) = s ∧ m (b + 2) (59 + 5 * k + 1) = c then m (b + 2) (59 + 5 * k + 4) else 0)
theorem yhad_b {m : zMm} {b s c k : Int} (h : zRow m b) (hk0 : 0 ≤ k) (hk : k ≤ m (b + 2) 58) : 0 ≤ yhad m b s c k ∧ yhad m b s c k ≤ k * 400 := zs_b hk0 (fun j a q => by have := h.go j a (by omega); split <;> omega)
theorem C_X13_leftOf {G : zG} {S : zS} {m : zMm} {b : Int} (hb : zMod S b) {s c : Int} (hr : zRow m b) (hs : 0 ≤ s ∧ s < 8) (hc : 0 ≤ c ∧ c < 2) : zC G mX13_leftOf 1 0 0 [zR b, zI s, zI c] S m (zDet (some (zI (m (b + 2) (8 + 3 * s + c) - yhad m b s c (m (b + 2) 58)))) S m) zNX := by
  have hn := hr.nu
  refine zC.of [zR b, zI s, zI c, zU, zU] (by decide) rfl (zEn1 (zcR _) (zEn1 (zcI _) (zEn1 (zcI _) (zEn0 (by simp))))) rfl ?_
  refine zT.rng hb.a1014 (fun zN => ?_)
  refine zT.aload_n 0 dX13_leftOf_0 rfl rfl ?_
  refine zT.iload_n 1 dX13_leftOf_1 rfl rfl ?_
  refine zT.iload_n 2 dX13_leftOf_2 rfl rfl ?_
  refine zT.callV (M' := mX13_needs) (b := b) [zI s, zI c] [] dX13_leftOf_3 kX13_309 rfl rfl (ci := 10) (r := (RX13, TX13, 62)) rfl (zMod.k hb) (C_X13_needs hb (by first | assumption | exact zq_i _ | exact zand_i _ _ | exact zor_i _ _ | exact zxor_i _ _ | exact zN _ | omega) (by first | assumption | exact zq_i _ | exact zand_i _ _ | exact zor_i _ _ | exact zxor_i _ _ | exact zN _ | omega)) (by decide) (k' := 0) (n' := 0) (by omega) (by omega) (by decide) (zdk (v := some (zI (m (b + 2) (8 + 3 * s + c)))) ?_) (fun _ _ _ _ h => h.elim)
  show zT G _ _ _ _ [zI (m (b + 2) (8 + 3 * s + c))] _ _ _ _ _ _
  refine zT.istore_n 3 dX13_leftOf_6 rfl (by decide) (zpre1 rfl (zcI _)) ?_
  show zT G _ _ _ [zR b, zI s, zI c, zI (m (b + 2) (8 + 3 * s + c)), zU] _ _ _ _ _ _ _
  refine zT.iconst dX13_leftOf_7 ?_
  refine zT.istore 4 dX13_leftOf_8 (by decide) (zpre1 rfl (zcI _)) ?_
  show zT G _ _ _ [zR b, zI s, zI c, zI (m (b + 2) (8 + 3 * s + c)), zI 0] _ _ _ _ _ _ _
  have L10 : ∀ (N : Nat) (k : Int) (v : Int), (0 ≤ k) → (k ≤ m (b + 2) 58) → (v = m (b + 2) (8 + 3 * s + c) - yhad m b s c k) → ((m (b + 2) 58 - k).toNat) < N → zT G mX13_leftOf 1 10 [zR b, zI s, zI c, zI v, zI k] [] S m 0 0 (zDet (some (zI (m (b + 2) (8 + 3 * s + c) - yhad m b s c (m (b + 2) 58)))) S m) zNX := by
    intro N
    induction N with
    | zero => intro k v k0 k1 hv hN; exact absurd hN (Nat.not_lt_zero _)
    | succ N ih10 =>
      intro k v k0 k1 hv hN
      refine zT.iload 4 dX13_leftOf_10 rfl ?_
      refine zT.aload_n 0 dX13_leftOf_12 rfl rfl ?_
      refine zT.callV (M' := mX13_goes) (b := b) [] [zI k] dX13_leftOf_13 kX13_284 rfl rfl (ci := 10) (r := (RX13, TX13, 62)) rfl (zMod.k hb) (C_X13_goes hb) (by decide) (k' := 0) (n' := 0) (by omega) (by omega) (by simp only [List.map, zcI, zcJ, zcR, List.sum_cons, List.sum_nil]; decide) (zdk (v := some (zI (m (b + 2) (58)))) ?_) (fun _ _ _ _ h => h.elim)
      show zT G _ _ _ _ [zI (m (b + 2) (58)), zI k] _ _ _ _ _ _
      refine zT.ic_ge (tgt := 57) dX13_leftOf_16 (by decide) (by first | assumption | exact zq_i _ | exact zand_i _ _ | exact zor_i _ _ | exact zxor_i _ _ | exact zN _ | omega) (by first | assumption | exact zq_i _ | exact zand_i _ _ | exact zor_i _ _ | exact zxor_i _ _ | exact zN _ | omega) (fun c16 => ?_) (fun c16 => ?_)
      · refine zT.iload_n 3 dX13_leftOf_57 rfl rfl ?_
        refine zT.iret dX13_leftOf_58 rfl ?_
        rw [hv, show k = m (b + 2) 58 by omega]; exact ⟨rfl, rfl, rfl⟩
      · refine zT.aload_n 0 dX13_leftOf_19 rfl rfl ?_
        refine zT.iload 4 dX13_leftOf_20 rfl ?_
        refine zT.iconst dX13_leftOf_22 ?_
        refine zT.callV (M' := mX13_go5) (b := b) [zI k, zI 0] [] dX13_leftOf_23 kX13_280 rfl rfl (ci := 10) (r := (RX13, TX13, 62)) rfl (zMod.k hb) (C_X13_go5 hb (by first | assumption | exact zq_i _ | exact zand_i _ _ | exact zor_i _ _ | exact zxor_i _ _ | exact zN _ | omega) (by first | assumption | exact zq_i _ | exact zand_i _ _ | exact zor_i _ _ | exact zxor_i _ _ | exact zN _ | omega)) (by decide) (k' := 0) (n' := 0) (by omega) (by omega) (by decide) (zdk (v := some (zI (m (b + 2) (59 + 5 * k + 0)))) ?_) (fun _ _ _ _ h => h.elim)
        show zT G _ _ _ _ [zI (m (b + 2) (59 + 5 * k + 0))] _ _ _ _ _ _
        refine zT.iload_n 1 dX13_leftOf_26 rfl rfl ?_
        refine zT.ic_ne (tgt := 51) dX13_leftOf_27 (by decide) (by first | assumption | exact zq_i _ | exact zand_i _ _ | exact zor_i _ _ | exact zxor_i _ _ | exact zN _ | omega) (by first | assumption | exact zq_i _ | exact zand_i _ _ | exact zor_i _ _ | exact zxor_i _ _ | exact zN _ | omega) (fun c27 => ?_) (fun c27 => ?_)
        · refine zT.iinc 4 dX13_leftOf_51 rfl (by decide) (zpre1 rfl (zcI _)) ?_
          show zT G _ _ _ [zR b, zI s, zI c, zI v, zI (k + 1)] _ _ _ _ _ _ _
          refine zT.goto (tgt := 10) dX13_leftOf_54 (by decide) ?_
          exact ih10 _ _ (by first | assumption | exact zq_i _ | exact zand_i _ _ | exact zor_i _ _ | exact zxor_i _ _ | exact zN _ | omega) (by first | assumption | exact zq_i _ | exact zand_i _ _ | exact zor_i _ _ | exact zxor_i _ _ | exact zN _ | omega) (by unfold yhad at *; rw [zs_s k0]; split <;> omega) (by omega)
        · refine zT.aload_n 0 dX13_leftOf_30 rfl rfl ?_
          refine zT.iload 4 dX13_leftOf_31 rfl ?_
          refine zT.iconst dX13_leftOf_33 ?_
          refine zT.callV (M' := mX13_go5) (b := b) [zI k, zI 1] [] dX13_leftOf_34 kX13_280 rfl rfl (ci := 10) (r := (RX13, TX13, 62)) rfl (zMod.k hb) (C_X13_go5 hb (by first | assumption | exact zq_i _ | exact zand_i _ _ | exact zor_i _ _ | exact zxor_i _ _ | exact zN _ | omega) (by first | assumption | exact zq_i _ | exact zand_i _ _ | exact zor_i _ _ | exact zxor_i _ _ | exact zN _ | omega)) (by decide) (k' := 0) (n' := 0) (by omega) (by omega) (by decide) (zdk (v := some (zI (m (b + 2) (59 + 5 * k + 1)))) ?_) (fun _ _ _ _ h => h.elim)
          show zT G _ _ _ _ [zI (m (b + 2) (59 + 5 * k + 1))] _ _ _ _ _ _
          refine zT.iload_n 2 dX13_leftOf_37 rfl rfl ?_
          refine zT.ic_ne (tgt := 51) dX13_leftOf_38 (by decide) (by first | assumption | exact zq_i _ | exact zand_i _ _ | exact zor_i _ _ | exact zxor_i _ _ | exact zN _ | omega) (by first | assumption | exact zq_i _ | exact zand_i _ _ | exact zor_i _ _ | exact zxor_i _ _ | exact zN _ | omega) (fun c38 => ?_) (fun c38 => ?_)
          · refine zT.iinc 4 dX13_leftOf_51 rfl (by decide) (zpre1 rfl (zcI _)) ?_
            show zT G _ _ _ [zR b, zI s, zI c, zI v, zI (k + 1)] _ _ _ _ _ _ _
            refine zT.goto (tgt := 10) dX13_leftOf_54 (by decide) ?_
            exact ih10 _ _ (by first | assumption | exact zq_i _ | exact zand_i _ _ | exact zor_i _ _ | exact zxor_i _ _ | exact zN _ | omega) (by first | assumption | exact zq_i _ | exact zand_i _ _ | exact zor_i _ _ | exact zxor_i _ _ | exact zN _ | omega) (by unfold yhad at *; rw [zs_s k0]; split <;> omega) (by omega)
          · refine zT.iload_n 3 dX13_leftOf_41 rfl rfl ?_
            refine zT.aload_n 0 dX13_leftOf_42 rfl rfl ?_
            refine zT.iload 4 dX13_leftOf_43 rfl ?_
            refine zT.iconst dX13_leftOf_45 ?_
            refine zT.callV (M' := mX13_go5) (b := b) [zI k, zI 4] [zI v] dX13_leftOf_46 kX13_280 rfl rfl (ci := 10) (r := (RX13, TX13, 62)) rfl (zMod.k hb) (C_X13_go5 hb (by first | assumption | exact zq_i _ | exact zand_i _ _ | exact zor_i _ _ | exact zxor_i _ _ | exact zN _ | omega) (by first | assumption | exact zq_i _ | exact zand_i _ _ | exact zor_i _ _ | exact zxor_i _ _ | exact zN _ | omega)) (by decide) (k' := 0) (n' := 0) (by omega) (by omega) (by simp only [List.map, zcI, zcJ, zcR, List.sum_cons, List.sum_nil]; decide) (zdk (v := some (zI (m (b + 2) (59 + 5 * k + 4)))) ?_) (fun _ _ _ _ h => h.elim)
            show zT G _ _ _ _ [zI (m (b + 2) (59 + 5 * k + 4)), zI v] _ _ _ _ _ _
            refine zT.isub dX13_leftOf_49 ?_
            refine zT.istore_n 3 dX13_leftOf_50 rfl (by decide) (zpre1 rfl (zcI _)) ?_
            show zT G _ _ _ [zR b, zI s, zI c, zI (v - (m (b + 2) (59 + 5 * k + 4))), zI k] _ _ _ _ _ _ _
            refine zT.iinc 4 dX13_leftOf_51 rfl (by decide) (zpre1 rfl (zcI _)) ?_
            show zT G _ _ _ [zR b, zI s, zI c, zI (v - (m (b + 2) (59 + 5 * k + 4))), zI (k + 1)] _ _ _ _ _ _ _
            refine zT.goto (tgt := 10) dX13_leftOf_54 (by decide) ?_
            exact ih10 _ _ (by first | assumption | exact zq_i _ | exact zand_i _ _ | exact zor_i _ _ | exact zxor_i _ _ | exact zN _ | omega) (by first | assumption | exact zq_i _ | exact zand_i _ _ | exact zor_i _ _ | exact zxor_i _ _ | exact zN _ | omega) (by unfold yhad at *; rw [zs_s k0]; split <;> omega) (by omega)
  exact L10 _ _ _ (by first | assumption | exact zq_i _ | exact zand_i _ _ | exact zor_i _ _ | exact zxor_i _ _ | exact zN _ | omega) (by first | assumption | exact zq_i _ | exact zand_i _ _ | exact zor_i _ _ | exact zxor_i _ _ | exact zN _ | omega) (by unfold yhad; rw [zs_0]; omega) (Nat.lt_succ_self _)

def yends (m : zMm) (b : Int) : Int → Int := zmx (fun k => m (b + 2) (59 + 5 * k + 2) + m (b + 2) (59 + 5 * k + 4))
theorem yends_b {m : zMm} {b k : Int} (h : zRow m b) (hk : k ≤ m (b + 2) 58) : 0 ≤ yends m b k ∧ yends m b k ≤ 1400 := zmx_b (by omega) (fun j a q => by have := h.go j a (by omega); omega)
theorem C_X13_endsAt {G : zG} {S : zS} {m : zMm} {b : Int} (hb : zMod S b) (hr : zRow m b) : zC G mX13_endsAt 2 0 0 [zR b] S m (zDet (some (zI (yends m b (m (b + 2) 58)))) S m) zNX := by
  have hn := hr.nu
  refine zC.of [zR b, zU, zU] (by decide) rfl (zEn1 (zcR _) (zEn0 (by simp))) rfl ?_
  refine zT.rng hb.a1014 (fun zN => ?_)
  refine zT.iconst dX13_endsAt_0 ?_
  refine zT.istore_n 1 dX13_endsAt_1 rfl (by decide) (zpre1 rfl (zcR _)) ?_
  show zT G _ _ _ [zR b, zI 0, zU] _ _ _ _ _ _ _
  refine zT.iconst dX13_endsAt_2 ?_
  refine zT.istore_n 2 dX13_endsAt_3 rfl (by decide) (zpre1 rfl (zcI _)) ?_
  show zT G _ _ _ [zR b, zI 0, zI 0] _ _ _ _ _ _ _
  have L4 : ∀ (N : Nat) (k : Int) (v : Int), (0 ≤ k) → (k ≤ m (b + 2) 58) → (v = yends m b k) → ((m (b + 2) 58 - k).toNat) < N → zT G mX13_endsAt 2 4 [zR b, zI v, zI k] [] S m 0 0 (zDet (some (zI (yends m b (m (b + 2) 58)))) S m) zNX := by
    intro N
    induction N with
    | zero => intro k v k0 k1 hv hN; exact absurd hN (Nat.not_lt_zero _)
    | succ N ih4 =>
      intro k v k0 k1 hv hN
      have hb1 := yends_b hr k1
      rw [← hv] at hb1
      refine zT.iload_n 2 dX13_endsAt_4 rfl rfl ?_
      refine zT.aload_n 0 dX13_endsAt_5 rfl rfl ?_
      refine zT.callV (M' := mX13_goes) (b := b) [] [zI k] dX13_endsAt_6 kX13_284 rfl rfl (ci := 10) (r := (RX13, TX13, 62)) rfl (zMod.k hb) (C_X13_goes hb) (by decide) (k' := 0) (n' := 0) (by omega) (by omega) (by simp only [List.map, zcI, zcJ, zcR, List.sum_cons, List.sum_nil]; decide) (zdk (v := some (zI (m (b + 2) (58)))) ?_) (fun _ _ _ _ h => h.elim)
      show zT G _ _ _ _ [zI (m (b + 2) (58)), zI k] _ _ _ _ _ _
      refine zT.ic_ge (tgt := 28) dX13_endsAt_9 (by decide) (by first | assumption | exact zq_i _ | exact zand_i _ _ | exact zor_i _ _ | exact zxor_i _ _ | exact zN _ | omega) (by first | assumption | exact zq_i _ | exact zand_i _ _ | exact zor_i _ _ | exact zxor_i _ _ | exact zN _ | omega) (fun c9 => ?_) (fun c9 => ?_)
      · refine zT.iload_n 1 dX13_endsAt_28 rfl rfl ?_
        refine zT.iret dX13_endsAt_29 rfl ?_
        rw [hv, show k = m (b + 2) 58 by omega]; exact ⟨rfl, rfl, rfl⟩
      · have hrk := hr.go k (by omega) (by omega)
        refine zT.iload_n 1 dX13_endsAt_12 rfl rfl ?_
        refine zT.aload_n 0 dX13_endsAt_13 rfl rfl ?_
        refine zT.iload_n 2 dX13_endsAt_14 rfl rfl ?_
        refine zT.callV (M' := mX13_behind) (b := b) [zI k] [zI v] dX13_endsAt_15 kX13_306 rfl rfl (ci := 10) (r := (RX13, TX13, 62)) rfl (zMod.k hb) (C_X13_behind hb (by first | assumption | exact zq_i _ | exact zand_i _ _ | exact zor_i _ _ | exact zxor_i _ _ | exact zN _ | omega)) (by decide) (k' := 0) (n' := 0) (by omega) (by omega) (by simp only [List.map, zcI, zcJ, zcR, List.sum_cons, List.sum_nil]; decide) (zdk (v := some (zI (m (b + 2) (59 + 5 * k + 2) + m (b + 2) (59 + 5 * k + 4)))) ?_) (fun _ _ _ _ h => h.elim)
        show zT G _ _ _ _ [zI (m (b + 2) (59 + 5 * k + 2) + m (b + 2) (59 + 5 * k + 4)), zI v] _ _ _ _ _ _
        refine zT.callS (M' := mX13_most) [zI v, zI (m (b + 2) (59 + 5 * k + 2) + m (b + 2) (59 + 5 * k + 4))] [] dX13_endsAt_18 kX13_318 rfl rfl (C_X13_most (by first | assumption | exact zq_i _ | exact zand_i _ _ | exact zor_i _ _ | exact zxor_i _ _ | exact zN _ | omega) (by first | assumption | exact zq_i _ | exact zand_i _ _ | exact zor_i _ _ | exact zxor_i _ _ | exact zN _ | omega)) (by decide) (k' := 0) (n' := 0) (by omega) (by omega) (by decide) (zdk (v := some (zI (max v (m (b + 2) (59 + 5 * k + 2) + m (b + 2) (59 + 5 * k + 4))))) ?_) (fun _ _ _ _ h => h.elim)
        show zT G _ _ _ _ [zI (max v (m (b + 2) (59 + 5 * k + 2) + m (b + 2) (59 + 5 * k + 4)))] _ _ _ _ _ _
        refine zT.istore_n 1 dX13_endsAt_21 rfl (by decide) (zpre1 rfl (zcR _)) ?_
        show zT G _ _ _ [zR b, zI (max v (m (b + 2) (59 + 5 * k + 2) + m (b + 2) (59 + 5 * k + 4))), zI k] _ _ _ _ _ _ _
        refine zT.iinc 2 dX13_endsAt_22 rfl (by decide) (zpre1 rfl (zcI _)) ?_
        show zT G _ _ _ [zR b, zI (max v (m (b + 2) (59 + 5 * k + 2) + m (b + 2) (59 + 5 * k + 4))), zI (k + 1)] _ _ _ _ _ _ _
        refine zT.goto (tgt := 4) dX13_endsAt_25 (by decide) ?_
        exact ih4 _ _ (by first | assumption | exact zq_i _ | exact zand_i _ _ | exact zor_i _ _ | exact zxor_i _ _ | exact zN _ | omega) (by first | assumption | exact zq_i _ | exact zand_i _ _ | exact zor_i _ _ | exact zxor_i _ _ | exact zN _ | omega) (by unfold yends at *; rw [zmx_s k0, ← hv]) (by omega)
  exact L4 _ _ _ (by first | assumption | exact zq_i _ | exact zand_i _ _ | exact zor_i _ _ | exact zxor_i _ _ | exact zN _ | omega) (by first | assumption | exact zq_i _ | exact zand_i _ _ | exact zor_i _ _ | exact zxor_i _ _ | exact zN _ | omega) (by rfl) (Nat.lt_succ_self _)

