/-! PanSlices$Plan: what only reads (written by gen/m_plan.py) -/
/-- a plan whose goes are in range -/
def zPl (m : zMm) (p : Int) : Prop := 0 ≤ m p 305 ∧ m p 305 ≤ 400 ∧ ∀ k, 0 ≤ k → k < m p 305 → 0 ≤ m (p + 1) k ∧ m (p + 1) k < 8 ∧ 0 ≤ m (p + 2) k ∧ m (p + 2) k < 2 ∧ 0 ≤ m (p + 3) k ∧ m (p + 3) k ≤ 1000 ∧ 0 ≤ m (p + 4) k ∧ m (p + 4) k < 4 ∧ 1 ≤ m (p + 5) k ∧ m (p + 5) k ≤ 400
theorem C_X4_end {G : zG} {S : zS} {m : zMm} {p k : Int} (hp : zPlan S p) (h0 : 0 ≤ k) (h1 : k < 400) : zC G mX4_end 0 0 0 [zR p, zI k] S m (zDet (some (zI (m (p + 3) k + m (p + 5) k))) S m) zNX := by
  refine zC.of [zR p, zI k] (by decide) rfl (zEn1 (zcR _) (zEn1 (zcI _) (zEn0 (by simp)))) rfl ?_
  refine zT.aload_n 0 dX4_end_0 rfl rfl ?_
  refine zT.getF dX4_end_1 fX4_18 rfl (zPlan.k hp) (j := 2) (by decide) rfl (zPlan.f302 hp) ?_
  refine zT.iload_n 1 dX4_end_4 rfl rfl ?_
  refine zT.iald dX4_end_5 (zPlan.a302 hp) (by first | assumption | exact zq_i _ | exact zand_i _ _ | exact zor_i _ _ | exact zxor_i _ _ | exact zN _ | omega) (by rw [(zPlan.n302 hp)]; first | assumption | exact zq_i _ | exact zand_i _ _ | exact zor_i _ _ | exact zxor_i _ _ | exact zN _ | omega) (fun z5 => ?_)
  refine zT.aload_n 0 dX4_end_6 rfl rfl ?_
  refine zT.getF dX4_end_7 fX4_24 rfl (zPlan.k hp) (j := 4) (by decide) rfl (zPlan.f304 hp) ?_
  refine zT.iload_n 1 dX4_end_10 rfl rfl ?_
  refine zT.iald dX4_end_11 (zPlan.a304 hp) (by first | assumption | exact zq_i _ | exact zand_i _ _ | exact zor_i _ _ | exact zxor_i _ _ | exact zN _ | omega) (by rw [(zPlan.n304 hp)]; first | assumption | exact zq_i _ | exact zand_i _ _ | exact zor_i _ _ | exact zxor_i _ _ | exact zN _ | omega) (fun z11 => ?_)
  refine zT.iadd dX4_end_12 ?_
  refine zT.iret dX4_end_13 rfl ?_
  exact ⟨rfl, rfl, rfl⟩

def zhad (m : zMm) (p s c : Int) : Int → Int := zs (fun k => if m (p + 1) k = s ∧ m (p + 2) k = c then m (p + 5) k else 0)
theorem C_X4_had {G : zG} {S : zS} {m : zMm} {p s c a : Int} (hp : zPlan S p) (hs : zi s) (hc : zi c) (h0 : 0 ≤ a) (h1 : a ≤ 400) : zC G mX4_had 0 0 0 [zR p, zI s, zI c, zI a] S m (zDet (some (zI (zhad m p s c a))) S m) zNX := by
  refine zC.of [zR p, zI s, zI c, zI a, zU, zU] (by decide) rfl (zEn1 (zcR _) (zEn1 (zcI _) (zEn1 (zcI _) (zEn1 (zcI _) (zEn0 (by simp)))))) rfl ?_
  refine zT.iconst dX4_had_0 ?_
  refine zT.istore 4 dX4_had_1 (by decide) (zpre1 rfl (zcI _)) ?_
  show zT G _ _ _ [zR p, zI s, zI c, zI a, zI 0, zU] _ _ _ _ _ _ _
  refine zT.iconst dX4_had_3 ?_
  refine zT.istore 5 dX4_had_4 (by decide) (zpre1 rfl (zcI _)) ?_
  show zT G _ _ _ [zR p, zI s, zI c, zI a, zI 0, zI 0] _ _ _ _ _ _ _
  have L6 : ∀ (N : Nat) (k : Int) (sum : Int), (0 ≤ k) → (k ≤ a) → (sum = zhad m p s c k) → ((a - k).toNat) < N → zT G mX4_had 0 6 [zR p, zI s, zI c, zI a, zI sum, zI k] [] S m 0 0 (zDet (some (zI (zhad m p s c a))) S m) zNX := by
    intro N
    induction N with
    | zero => intro k sum k0 k1 hv hN; exact absurd hN (Nat.not_lt_zero _)
    | succ N ih6 =>
      intro k sum k0 k1 hv hN
      refine zT.iload 5 dX4_had_6 rfl ?_
      refine zT.iload_n 3 dX4_had_8 rfl rfl ?_
      refine zT.ic_ge (tgt := 56) dX4_had_9 (by decide) (by first | assumption | exact zq_i _ | exact zand_i _ _ | exact zor_i _ _ | exact zxor_i _ _ | exact zN _ | omega) (by first | assumption | exact zq_i _ | exact zand_i _ _ | exact zor_i _ _ | exact zxor_i _ _ | exact zN _ | omega) (fun c9 => ?_) (fun c9 => ?_)
      · refine zT.iload 4 dX4_had_56 rfl ?_
        refine zT.iret dX4_had_58 rfl ?_
        rw [hv, show k = a by omega]; exact ⟨rfl, rfl, rfl⟩
      · refine zT.iload 4 dX4_had_12 rfl ?_
        refine zT.aload_n 0 dX4_had_14 rfl rfl ?_
        refine zT.getF dX4_had_15 fX4_9 rfl (zPlan.k hp) (j := 0) (by decide) rfl (zPlan.f300 hp) ?_
        refine zT.iload 5 dX4_had_18 rfl ?_
        refine zT.iald dX4_had_20 (zPlan.a300 hp) (by first | assumption | exact zq_i _ | exact zand_i _ _ | exact zor_i _ _ | exact zxor_i _ _ | exact zN _ | omega) (by rw [(zPlan.n300 hp)]; first | assumption | exact zq_i _ | exact zand_i _ _ | exact zor_i _ _ | exact zxor_i _ _ | exact zN _ | omega) (fun z20 => ?_)
        refine zT.iload_n 1 dX4_had_21 rfl rfl ?_
        refine zT.ic_ne (tgt := 46) dX4_had_22 (by decide) (by first | assumption | exact zq_i _ | exact zand_i _ _ | exact zor_i _ _ | exact zxor_i _ _ | exact zN _ | omega) (by first | assumption | exact zq_i _ | exact zand_i _ _ | exact zor_i _ _ | exact zxor_i _ _ | exact zN _ | omega) (fun c22 => ?_) (fun c22 => ?_)
        · refine zT.iconst dX4_had_46 ?_
          refine zT.iadd dX4_had_47 ?_
          refine zT.istore 4 dX4_had_48 (by decide) (zpre1 rfl (zcI _)) ?_
          show zT G _ _ _ [zR p, zI s, zI c, zI a, zI (sum + 0), zI k] _ _ _ _ _ _ _
          refine zT.iinc 5 dX4_had_50 rfl (by decide) (zpre1 rfl (zcI _)) ?_
          show zT G _ _ _ [zR p, zI s, zI c, zI a, zI (sum + 0), zI (k + 1)] _ _ _ _ _ _ _
          refine zT.goto (tgt := 6) dX4_had_53 (by decide) ?_
          exact ih6 _ _ (by first | assumption | exact zq_i _ | exact zand_i _ _ | exact zor_i _ _ | exact zxor_i _ _ | exact zN _ | omega) (by first | assumption | exact zq_i _ | exact zand_i _ _ | exact zor_i _ _ | exact zxor_i _ _ | exact zN _ | omega) (by unfold zhad at *; rw [zs_s k0]; split <;> omega) (by omega)
        · refine zT.aload_n 0 dX4_had_25 rfl rfl ?_
          refine zT.getF dX4_had_26 fX4_15 rfl (zPlan.k hp) (j := 1) (by decide) rfl (zPlan.f301 hp) ?_
          refine zT.iload 5 dX4_had_29 rfl ?_
          refine zT.iald dX4_had_31 (zPlan.a301 hp) (by first | assumption | exact zq_i _ | exact zand_i _ _ | exact zor_i _ _ | exact zxor_i _ _ | exact zN _ | omega) (by rw [(zPlan.n301 hp)]; first | assumption | exact zq_i _ | exact zand_i _ _ | exact zor_i _ _ | exact zxor_i _ _ | exact zN _ | omega) (fun z31 => ?_)
          refine zT.iload_n 2 dX4_had_32 rfl rfl ?_
          refine zT.ic_ne (tgt := 46) dX4_had_33 (by decide) (by first | assumption | exact zq_i _ | exact zand_i _ _ | exact zor_i _ _ | exact zxor_i _ _ | exact zN _ | omega) (by first | assumption | exact zq_i _ | exact zand_i _ _ | exact zor_i _ _ | exact zxor_i _ _ | exact zN _ | omega) (fun c33 => ?_) (fun c33 => ?_)
          · refine zT.iconst dX4_had_46 ?_
            refine zT.iadd dX4_had_47 ?_
            refine zT.istore 4 dX4_had_48 (by decide) (zpre1 rfl (zcI _)) ?_
            show zT G _ _ _ [zR p, zI s, zI c, zI a, zI (sum + 0), zI k] _ _ _ _ _ _ _
            refine zT.iinc 5 dX4_had_50 rfl (by decide) (zpre1 rfl (zcI _)) ?_
            show zT G _ _ _ [zR p, zI s, zI c, zI a, zI (sum + 0), zI (k + 1)] _ _ _ _ _ _ _
            refine zT.goto (tgt := 6) dX4_had_53 (by decide) ?_
            exact ih6 _ _ (by first | assumption | exact zq_i _ | exact zand_i _ _ | exact zor_i _ _ | exact zxor_i _ _ | exact zN _ | omega) (by first | assumption | exact zq_i _ | exact zand_i _ _ | exact zor_i _ _ | exact zxor_i _ _ | exact zN _ | omega) (by unfold zhad at *; rw [zs_s k0]; split <;> omega) (by omega)
          · refine zT.aload_n 0 dX4_had_36 rfl rfl ?_
            refine zT.getF dX4_had_37 fX4_24 rfl (zPlan.k hp) (j := 4) (by decide) rfl (zPlan.f304 hp) ?_
            refine zT.iload 5 dX4_had_40 rfl ?_
            refine zT.iald dX4_had_42 (zPlan.a304 hp) (by first | assumption | exact zq_i _ | exact zand_i _ _ | exact zor_i _ _ | exact zxor_i _ _ | exact zN _ | omega) (by rw [(zPlan.n304 hp)]; first | assumption | exact zq_i _ | exact zand_i _ _ | exact zor_i _ _ | exact zxor_i _ _ | exact zN _ | omega) (fun z42 => ?_)
            refine zT.goto (tgt := 47) dX4_had_43 (by decide) ?_
            refine zT.iadd dX4_had_47 ?_
            refine zT.istore 4 dX4_had_48 (by decide) (zpre1 rfl (zcI _)) ?_
            show zT G _ _ _ [zR p, zI s, zI c, zI a, zI (sum + (m (p + 5) k)), zI k] _ _ _ _ _ _ _
            refine zT.iinc 5 dX4_had_50 rfl (by decide) (zpre1 rfl (zcI _)) ?_
            show zT G _ _ _ [zR p, zI s, zI c, zI a, zI (sum + (m (p + 5) k)), zI (k + 1)] _ _ _ _ _ _ _
            refine zT.goto (tgt := 6) dX4_had_53 (by decide) ?_
            exact ih6 _ _ (by first | assumption | exact zq_i _ | exact zand_i _ _ | exact zor_i _ _ | exact zxor_i _ _ | exact zN _ | omega) (by first | assumption | exact zq_i _ | exact zand_i _ _ | exact zor_i _ _ | exact zxor_i _ _ | exact zN _ | omega) (by unfold zhad at *; rw [zs_s k0]; split <;> omega) (by omega)
  exact L6 _ _ _ (by first | assumption | exact zq_i _ | exact zand_i _ _ | exact zor_i _ _ | exact zxor_i _ _ | exact zN _ | omega) (by first | assumption | exact zq_i _ | exact zand_i _ _ | exact zor_i _ _ | exact zxor_i _ _ | exact zN _ | omega) (by rfl) (Nat.lt_succ_self _)

theorem C_X4_areMet {G : zG} {S : zS} {m : zMm} {p a b : Int} (hp : zPlan S p) (hPl : zPl m p) (a0 : 0 ≤ a) (a1 : a < m p 305) (b0 : 0 ≤ b) (b1 : b < m p 305) : zC G mX4_areMet 1 0 0 [zR p, zI a, zI b] S m (zDet (some (zI (zq (m (p + 3) a < m (p + 3) b + m (p + 5) b ∧ m (p + 3) b < m (p + 3) a + m (p + 5) a)))) S m) zNX := by
  have hPl0 := hPl.1
  have hPl1 := hPl.2.1
  have hra := hPl.2.2 a (by omega) (by omega)
  have hrb := hPl.2.2 b (by omega) (by omega)
  refine zC.of [zR p, zI a, zI b] (by decide) rfl (zEn1 (zcR _) (zEn1 (zcI _) (zEn1 (zcI _) (zEn0 (by simp))))) rfl ?_
  refine zT.aload_n 0 dX4_areMet_0 rfl rfl ?_
  refine zT.getF dX4_areMet_1 fX4_18 rfl (zPlan.k hp) (j := 2) (by decide) rfl (zPlan.f302 hp) ?_
  refine zT.iload_n 1 dX4_areMet_4 rfl rfl ?_
  refine zT.iald dX4_areMet_5 (zPlan.a302 hp) (by first | assumption | exact zq_i _ | exact zand_i _ _ | exact zor_i _ _ | exact zxor_i _ _ | exact zN _ | omega) (by rw [(zPlan.n302 hp)]; first | assumption | exact zq_i _ | exact zand_i _ _ | exact zor_i _ _ | exact zxor_i _ _ | exact zN _ | omega) (fun z5 => ?_)
  refine zT.aload_n 0 dX4_areMet_6 rfl rfl ?_
  refine zT.iload_n 2 dX4_areMet_7 rfl rfl ?_
  refine zT.callV (M' := mX4_end) (b := p) [zI b] [zI (m (p + 3) a)] dX4_areMet_8 kX4_37 rfl rfl (ci := 3) (r := (RX4, TX4, 6)) rfl (zPlan.k hp) (C_X4_end hp (by first | assumption | exact zq_i _ | exact zand_i _ _ | exact zor_i _ _ | exact zxor_i _ _ | exact zN _ | omega) (by first | assumption | exact zq_i _ | exact zand_i _ _ | exact zor_i _ _ | exact zxor_i _ _ | exact zN _ | omega)) (by decide) (k' := 0) (n' := 0) (by omega) (by omega) (by simp only [List.map, zcI, zcJ, zcR, List.sum_cons, List.sum_nil]; decide) (zdk (v := some (zI (m (p + 3) b + m (p + 5) b))) ?_) (fun _ _ _ _ h => h.elim)
  show zT G _ _ _ _ [zI (m (p + 3) b + m (p + 5) b), zI (m (p + 3) a)] _ _ _ _ _ _
  refine zT.ic_ge (tgt := 32) dX4_areMet_11 (by decide) (by first | assumption | exact zq_i _ | exact zand_i _ _ | exact zor_i _ _ | exact zxor_i _ _ | exact zN _ | omega) (by first | assumption | exact zq_i _ | exact zand_i _ _ | exact zor_i _ _ | exact zxor_i _ _ | exact zN _ | omega) (fun c11 => ?_) (fun c11 => ?_)
  · refine zT.iconst dX4_areMet_32 ?_
    refine zT.zret dX4_areMet_33 rfl (by omega) ?_
    (first | rw [zq_t (by omega)] | rw [zq_f (by omega)]); exact ⟨rfl, rfl, rfl⟩
  · refine zT.aload_n 0 dX4_areMet_14 rfl rfl ?_
    refine zT.getF dX4_areMet_15 fX4_18 rfl (zPlan.k hp) (j := 2) (by decide) rfl (zPlan.f302 hp) ?_
    refine zT.iload_n 2 dX4_areMet_18 rfl rfl ?_
    refine zT.iald dX4_areMet_19 (zPlan.a302 hp) (by first | assumption | exact zq_i _ | exact zand_i _ _ | exact zor_i _ _ | exact zxor_i _ _ | exact zN _ | omega) (by rw [(zPlan.n302 hp)]; first | assumption | exact zq_i _ | exact zand_i _ _ | exact zor_i _ _ | exact zxor_i _ _ | exact zN _ | omega) (fun z19 => ?_)
    refine zT.aload_n 0 dX4_areMet_20 rfl rfl ?_
    refine zT.iload_n 1 dX4_areMet_21 rfl rfl ?_
    refine zT.callV (M' := mX4_end) (b := p) [zI a] [zI (m (p + 3) b)] dX4_areMet_22 kX4_37 rfl rfl (ci := 3) (r := (RX4, TX4, 6)) rfl (zPlan.k hp) (C_X4_end hp (by first | assumption | exact zq_i _ | exact zand_i _ _ | exact zor_i _ _ | exact zxor_i _ _ | exact zN _ | omega) (by first | assumption | exact zq_i _ | exact zand_i _ _ | exact zor_i _ _ | exact zxor_i _ _ | exact zN _ | omega)) (by decide) (k' := 0) (n' := 0) (by omega) (by omega) (by simp only [List.map, zcI, zcJ, zcR, List.sum_cons, List.sum_nil]; decide) (zdk (v := some (zI (m (p + 3) a + m (p + 5) a))) ?_) (fun _ _ _ _ h => h.elim)
    show zT G _ _ _ _ [zI (m (p + 3) a + m (p + 5) a), zI (m (p + 3) b)] _ _ _ _ _ _
    refine zT.ic_ge (tgt := 32) dX4_areMet_25 (by decide) (by first | assumption | exact zq_i _ | exact zand_i _ _ | exact zor_i _ _ | exact zxor_i _ _ | exact zN _ | omega) (by first | assumption | exact zq_i _ | exact zand_i _ _ | exact zor_i _ _ | exact zxor_i _ _ | exact zN _ | omega) (fun c25 => ?_) (fun c25 => ?_)
    · refine zT.iconst dX4_areMet_32 ?_
      refine zT.zret dX4_areMet_33 rfl (by omega) ?_
      (first | rw [zq_t (by omega)] | rw [zq_f (by omega)]); exact ⟨rfl, rfl, rfl⟩
    · refine zT.iconst dX4_areMet_28 ?_
      refine zT.goto (tgt := 33) dX4_areMet_29 (by decide) ?_
      refine zT.zret dX4_areMet_33 rfl (by omega) ?_
      (first | rw [zq_t (by omega)] | rw [zq_f (by omega)]); exact ⟨rfl, rfl, rfl⟩

theorem C_X4_isTaken {G : zG} {S : zS} {m : zMm} {p a t : Int} (hp : zPlan S p) (hPl : zPl m p) (ha : zi a) (ht : zi t) : zC G mX4_isTaken 1 0 0 [zR p, zI a, zI t] S m (zDet (some (zI (zq (∃ j, 0 ≤ j ∧ j < m p 305 ∧ m (p + 4) j = a ∧ m (p + 3) j ≤ t ∧ t < m (p + 3) j + m (p + 5) j)))) S m) zNX := by
  have hPl1 := hPl.2.1
  refine zC.of [zR p, zI a, zI t, zU] (by decide) rfl (zEn1 (zcR _) (zEn1 (zcI _) (zEn1 (zcI _) (zEn0 (by simp))))) rfl ?_
  refine zT.iconst dX4_isTaken_0 ?_
  refine zT.istore_n 3 dX4_isTaken_1 rfl (by decide) (zpre1 rfl (zcI _)) ?_
  show zT G _ _ _ [zR p, zI a, zI t, zI 0] _ _ _ _ _ _ _
  have L2 : ∀ (N : Nat) (k : Int), (0 ≤ k) → (k ≤ m p 305) → (∀ j, 0 ≤ j → j < k → ¬ (m (p + 4) j = a ∧ m (p + 3) j ≤ t ∧ t < m (p + 3) j + m (p + 5) j)) → ((m p 305 - k).toNat) < N → zT G mX4_isTaken 1 2 [zR p, zI a, zI t, zI k] [] S m 0 0 (zDet (some (zI (zq (∃ j, 0 ≤ j ∧ j < m p 305 ∧ m (p + 4) j = a ∧ m (p + 3) j ≤ t ∧ t < m (p + 3) j + m (p + 5) j)))) S m) zNX := by
    intro N
    induction N with
    | zero => intro k k0 k1 hv hN; exact absurd hN (Nat.not_lt_zero _)
    | succ N ih2 =>
      intro k k0 k1 hv hN
      refine zT.iload_n 3 dX4_isTaken_2 rfl rfl ?_
      refine zT.aload_n 0 dX4_isTaken_3 rfl rfl ?_
      refine zT.getI dX4_isTaken_4 fX4_27 rfl (zPlan.k hp) (j := 5) (by decide) rfl (fun z4 => ?_)
      refine zT.ic_ge (tgt := 47) dX4_isTaken_7 (by decide) (by first | assumption | exact zq_i _ | exact zand_i _ _ | exact zor_i _ _ | exact zxor_i _ _ | exact zN _ | omega) (by first | assumption | exact zq_i _ | exact zand_i _ _ | exact zor_i _ _ | exact zxor_i _ _ | exact zN _ | omega) (fun c7 => ?_) (fun c7 => ?_)
      · refine zT.iconst dX4_isTaken_47 ?_
        refine zT.zret dX4_isTaken_48 rfl (by omega) ?_
        exact ⟨by rw [zq_f (fun ⟨j, h1, h2, h3⟩ => hv j h1 (by omega) h3)], rfl, rfl⟩
      · have hrk := hPl.2.2 k (by omega) (by omega)
        refine zT.aload_n 0 dX4_isTaken_10 rfl rfl ?_
        refine zT.getF dX4_isTaken_11 fX4_21 rfl (zPlan.k hp) (j := 3) (by decide) rfl (zPlan.f303 hp) ?_
        refine zT.iload_n 3 dX4_isTaken_14 rfl rfl ?_
        refine zT.iald dX4_isTaken_15 (zPlan.a303 hp) (by first | assumption | exact zq_i _ | exact zand_i _ _ | exact zor_i _ _ | exact zxor_i _ _ | exact zN _ | omega) (by rw [(zPlan.n303 hp)]; first | assumption | exact zq_i _ | exact zand_i _ _ | exact zor_i _ _ | exact zxor_i _ _ | exact zN _ | omega) (fun z15 => ?_)
        refine zT.iload_n 1 dX4_isTaken_16 rfl rfl ?_
        refine zT.ic_ne (tgt := 41) dX4_isTaken_17 (by decide) (by first | assumption | exact zq_i _ | exact zand_i _ _ | exact zor_i _ _ | exact zxor_i _ _ | exact zN _ | omega) (by first | assumption | exact zq_i _ | exact zand_i _ _ | exact zor_i _ _ | exact zxor_i _ _ | exact zN _ | omega) (fun c17 => ?_) (fun c17 => ?_)
        · refine zT.iinc 3 dX4_isTaken_41 rfl (by decide) (zpre1 rfl (zcI _)) ?_
          show zT G _ _ _ [zR p, zI a, zI t, zI (k + 1)] _ _ _ _ _ _ _
          refine zT.goto (tgt := 2) dX4_isTaken_44 (by decide) ?_
          exact ih2 _ (by first | assumption | exact zq_i _ | exact zand_i _ _ | exact zor_i _ _ | exact zxor_i _ _ | exact zN _ | omega) (by first | assumption | exact zq_i _ | exact zand_i _ _ | exact zor_i _ _ | exact zxor_i _ _ | exact zN _ | omega) (by exact zal_s hv (by omega)) (by omega)
        · refine zT.aload_n 0 dX4_isTaken_20 rfl rfl ?_
          refine zT.getF dX4_isTaken_21 fX4_18 rfl (zPlan.k hp) (j := 2) (by decide) rfl (zPlan.f302 hp) ?_
          refine zT.iload_n 3 dX4_isTaken_24 rfl rfl ?_
          refine zT.iald dX4_isTaken_25 (zPlan.a302 hp) (by first | assumption | exact zq_i _ | exact zand_i _ _ | exact zor_i _ _ | exact zxor_i _ _ | exact zN _ | omega) (by rw [(zPlan.n302 hp)]; first | assumption | exact zq_i _ | exact zand_i _ _ | exact zor_i _ _ | exact zxor_i _ _ | exact zN _ | omega) (fun z25 => ?_)
          refine zT.iload_n 2 dX4_isTaken_26 rfl rfl ?_
          refine zT.ic_gt (tgt := 41) dX4_isTaken_27 (by decide) (by first | assumption | exact zq_i _ | exact zand_i _ _ | exact zor_i _ _ | exact zxor_i _ _ | exact zN _ | omega) (by first | assumption | exact zq_i _ | exact zand_i _ _ | exact zor_i _ _ | exact zxor_i _ _ | exact zN _ | omega) (fun c27 => ?_) (fun c27 => ?_)
          · refine zT.iinc 3 dX4_isTaken_41 rfl (by decide) (zpre1 rfl (zcI _)) ?_
            show zT G _ _ _ [zR p, zI a, zI t, zI (k + 1)] _ _ _ _ _ _ _
            refine zT.goto (tgt := 2) dX4_isTaken_44 (by decide) ?_
            exact ih2 _ (by first | assumption | exact zq_i _ | exact zand_i _ _ | exact zor_i _ _ | exact zxor_i _ _ | exact zN _ | omega) (by first | assumption | exact zq_i _ | exact zand_i _ _ | exact zor_i _ _ | exact zxor_i _ _ | exact zN _ | omega) (by exact zal_s hv (by omega)) (by omega)
          · refine zT.iload_n 2 dX4_isTaken_30 rfl rfl ?_
            refine zT.aload_n 0 dX4_isTaken_31 rfl rfl ?_
            refine zT.iload_n 3 dX4_isTaken_32 rfl rfl ?_
            refine zT.callV (M' := mX4_end) (b := p) [zI k] [zI t] dX4_isTaken_33 kX4_37 rfl rfl (ci := 3) (r := (RX4, TX4, 6)) rfl (zPlan.k hp) (C_X4_end hp (by first | assumption | exact zq_i _ | exact zand_i _ _ | exact zor_i _ _ | exact zxor_i _ _ | exact zN _ | omega) (by first | assumption | exact zq_i _ | exact zand_i _ _ | exact zor_i _ _ | exact zxor_i _ _ | exact zN _ | omega)) (by decide) (k' := 0) (n' := 0) (by omega) (by omega) (by simp only [List.map, zcI, zcJ, zcR, List.sum_cons, List.sum_nil]; decide) (zdk (v := some (zI (m (p + 3) k + m (p + 5) k))) ?_) (fun _ _ _ _ h => h.elim)
            show zT G _ _ _ _ [zI (m (p + 3) k + m (p + 5) k), zI t] _ _ _ _ _ _
            refine zT.ic_ge (tgt := 41) dX4_isTaken_36 (by decide) (by first | assumption | exact zq_i _ | exact zand_i _ _ | exact zor_i _ _ | exact zxor_i _ _ | exact zN _ | omega) (by first | assumption | exact zq_i _ | exact zand_i _ _ | exact zor_i _ _ | exact zxor_i _ _ | exact zN _ | omega) (fun c36 => ?_) (fun c36 => ?_)
            · refine zT.iinc 3 dX4_isTaken_41 rfl (by decide) (zpre1 rfl (zcI _)) ?_
              show zT G _ _ _ [zR p, zI a, zI t, zI (k + 1)] _ _ _ _ _ _ _
              refine zT.goto (tgt := 2) dX4_isTaken_44 (by decide) ?_
              exact ih2 _ (by first | assumption | exact zq_i _ | exact zand_i _ _ | exact zor_i _ _ | exact zxor_i _ _ | exact zN _ | omega) (by first | assumption | exact zq_i _ | exact zand_i _ _ | exact zor_i _ _ | exact zxor_i _ _ | exact zN _ | omega) (by exact zal_s hv (by omega)) (by omega)
            · refine zT.iconst dX4_isTaken_39 ?_
              refine zT.zret dX4_isTaken_40 rfl (by omega) ?_
              exact ⟨by rw [zq_t ⟨k, by omega⟩], rfl, rfl⟩
  exact L2 _ _ (by first | assumption | exact zq_i _ | exact zand_i _ _ | exact zor_i _ _ | exact zxor_i _ _ | exact zN _ | omega) (by exact hPl.1) (by exact zal_0) (Nat.lt_succ_self _)

def zends (m : zMm) (p : Int) : Int → Int := zmx (fun j => m (p + 3) j + m (p + 5) j)
theorem zends_b {m : zMm} {p k : Int} (h : zPl m p) (hk : k ≤ m p 305) : 0 ≤ zends m p k ∧ zends m p k ≤ 1400 := zmx_b (by omega) (fun j a b => by have := h.2.2 j a (by omega); omega)
theorem C_X4_ends {G : zG} {S : zS} {m : zMm} {p : Int} (hp : zPlan S p) (hPl : zPl m p) : zC G mX4_ends 1 0 0 [zR p] S m (zDet (some (zI (zends m p (m p 305)))) S m) zNX := by
  have hPl1 := hPl.2.1
  refine zC.of [zR p, zU, zU] (by decide) rfl (zEn1 (zcR _) (zEn0 (by simp))) rfl ?_
  refine zT.iconst dX4_ends_0 ?_
  refine zT.istore_n 1 dX4_ends_1 rfl (by decide) (zpre1 rfl (zcR _)) ?_
  show zT G _ _ _ [zR p, zI 0, zU] _ _ _ _ _ _ _
  refine zT.iconst dX4_ends_2 ?_
  refine zT.istore_n 2 dX4_ends_3 rfl (by decide) (zpre1 rfl (zcI _)) ?_
  show zT G _ _ _ [zR p, zI 0, zI 0] _ _ _ _ _ _ _
  have L4 : ∀ (N : Nat) (k : Int) (v : Int), (0 ≤ k) → (k ≤ m p 305) → (v = zends m p k) → ((m p 305 - k).toNat) < N → zT G mX4_ends 1 4 [zR p, zI v, zI k] [] S m 0 0 (zDet (some (zI (zends m p (m p 305)))) S m) zNX := by
    intro N
    induction N with
    | zero => intro k v k0 k1 hv hN; exact absurd hN (Nat.not_lt_zero _)
    | succ N ih4 =>
      intro k v k0 k1 hv hN
      have hb := zends_b hPl k1
      rw [← hv] at hb
      refine zT.iload_n 2 dX4_ends_4 rfl rfl ?_
      refine zT.aload_n 0 dX4_ends_5 rfl rfl ?_
      refine zT.getI dX4_ends_6 fX4_27 rfl (zPlan.k hp) (j := 5) (by decide) rfl (fun z6 => ?_)
      refine zT.ic_ge (tgt := 28) dX4_ends_9 (by decide) (by first | assumption | exact zq_i _ | exact zand_i _ _ | exact zor_i _ _ | exact zxor_i _ _ | exact zN _ | omega) (by first | assumption | exact zq_i _ | exact zand_i _ _ | exact zor_i _ _ | exact zxor_i _ _ | exact zN _ | omega) (fun c9 => ?_) (fun c9 => ?_)
      · refine zT.iload_n 1 dX4_ends_28 rfl rfl ?_
        refine zT.iret dX4_ends_29 rfl ?_
        rw [hv, show k = m p 305 by omega]; exact ⟨rfl, rfl, rfl⟩
      · have hrk := hPl.2.2 k (by omega) (by omega)
        refine zT.iload_n 1 dX4_ends_12 rfl rfl ?_
        refine zT.aload_n 0 dX4_ends_13 rfl rfl ?_
        refine zT.iload_n 2 dX4_ends_14 rfl rfl ?_
        refine zT.callV (M' := mX4_end) (b := p) [zI k] [zI v] dX4_ends_15 kX4_37 rfl rfl (ci := 3) (r := (RX4, TX4, 6)) rfl (zPlan.k hp) (C_X4_end hp (by first | assumption | exact zq_i _ | exact zand_i _ _ | exact zor_i _ _ | exact zxor_i _ _ | exact zN _ | omega) (by first | assumption | exact zq_i _ | exact zand_i _ _ | exact zor_i _ _ | exact zxor_i _ _ | exact zN _ | omega)) (by decide) (k' := 0) (n' := 0) (by omega) (by omega) (by simp only [List.map, zcI, zcJ, zcR, List.sum_cons, List.sum_nil]; decide) (zdk (v := some (zI (m (p + 3) k + m (p + 5) k))) ?_) (fun _ _ _ _ h => h.elim)
        show zT G _ _ _ _ [zI (m (p + 3) k + m (p + 5) k), zI v] _ _ _ _ _ _
        refine zT.mmax dX4_ends_18 q907 (by first | assumption | exact zq_i _ | exact zand_i _ _ | exact zor_i _ _ | exact zxor_i _ _ | exact zN _ | omega) (by first | assumption | exact zq_i _ | exact zand_i _ _ | exact zor_i _ _ | exact zxor_i _ _ | exact zN _ | omega) (by decide) (by decide) ?_
        refine zT.istore_n 1 dX4_ends_21 rfl (by decide) (zpre1 rfl (zcR _)) ?_
        show zT G _ _ _ [zR p, zI (max v (m (p + 3) k + m (p + 5) k)), zI k] _ _ _ _ _ _ _
        refine zT.iinc 2 dX4_ends_22 rfl (by decide) (zpre1 rfl (zcI _)) ?_
        show zT G _ _ _ [zR p, zI (max v (m (p + 3) k + m (p + 5) k)), zI (k + 1)] _ _ _ _ _ _ _
        refine zT.goto (tgt := 4) dX4_ends_25 (by decide) ?_
        exact ih4 _ _ (by first | assumption | exact zq_i _ | exact zand_i _ _ | exact zor_i _ _ | exact zxor_i _ _ | exact zN _ | omega) (by first | assumption | exact zq_i _ | exact zand_i _ _ | exact zor_i _ _ | exact zxor_i _ _ | exact zN _ | omega) (by unfold zends at *; rw [zmx_s k0, ← hv]) (by omega)
  exact L4 _ _ _ (by first | assumption | exact zq_i _ | exact zand_i _ _ | exact zor_i _ _ | exact zxor_i _ _ | exact zN _ | omega) (by exact hPl.1) (by rfl) (Nat.lt_succ_self _)

def zgoes (m : zMm) (p s : Int) : Int → Int := zs (fun j => if m (p + 1) j = s then 1 else 0)
theorem zgoes_b {m : zMm} {p s k : Int} (hk : 0 ≤ k) : 0 ≤ zgoes m p s k ∧ zgoes m p s k ≤ k * 1 := zs_b hk (fun j a b => by split <;> omega)
theorem C_X4_goesOf {G : zG} {S : zS} {m : zMm} {p s : Int} (hp : zPlan S p) (hPl : zPl m p) (hs : zi s) : zC G mX4_goesOf 0 0 0 [zR p, zI s] S m (zDet (some (zI (zgoes m p s (m p 305)))) S m) zNX := by
  have hPl1 := hPl.2.1
  refine zC.of [zR p, zI s, zU, zU] (by decide) rfl (zEn1 (zcR _) (zEn1 (zcI _) (zEn0 (by simp)))) rfl ?_
  refine zT.iconst dX4_goesOf_0 ?_
  refine zT.istore_n 2 dX4_goesOf_1 rfl (by decide) (zpre1 rfl (zcI _)) ?_
  show zT G _ _ _ [zR p, zI s, zI 0, zU] _ _ _ _ _ _ _
  refine zT.iconst dX4_goesOf_2 ?_
  refine zT.istore_n 3 dX4_goesOf_3 rfl (by decide) (zpre1 rfl (zcI _)) ?_
  show zT G _ _ _ [zR p, zI s, zI 0, zI 0] _ _ _ _ _ _ _
  have L4 : ∀ (N : Nat) (k : Int) (v : Int), (0 ≤ k) → (k ≤ m p 305) → (v = zgoes m p s k) → ((m p 305 - k).toNat) < N → zT G mX4_goesOf 0 4 [zR p, zI s, zI v, zI k] [] S m 0 0 (zDet (some (zI (zgoes m p s (m p 305)))) S m) zNX := by
    intro N
    induction N with
    | zero => intro k v k0 k1 hv hN; exact absurd hN (Nat.not_lt_zero _)
    | succ N ih4 =>
      intro k v k0 k1 hv hN
      refine zT.iload_n 3 dX4_goesOf_4 rfl rfl ?_
      refine zT.aload_n 0 dX4_goesOf_5 rfl rfl ?_
      refine zT.getI dX4_goesOf_6 fX4_27 rfl (zPlan.k hp) (j := 5) (by decide) rfl (fun z6 => ?_)
      refine zT.ic_ge (tgt := 36) dX4_goesOf_9 (by decide) (by first | assumption | exact zq_i _ | exact zand_i _ _ | exact zor_i _ _ | exact zxor_i _ _ | exact zN _ | omega) (by first | assumption | exact zq_i _ | exact zand_i _ _ | exact zor_i _ _ | exact zxor_i _ _ | exact zN _ | omega) (fun c9 => ?_) (fun c9 => ?_)
      · refine zT.iload_n 2 dX4_goesOf_36 rfl rfl ?_
        refine zT.iret dX4_goesOf_37 rfl ?_
        rw [hv, show k = m p 305 by omega]; exact ⟨rfl, rfl, rfl⟩
      · refine zT.iload_n 2 dX4_goesOf_12 rfl rfl ?_
        refine zT.aload_n 0 dX4_goesOf_13 rfl rfl ?_
        refine zT.getF dX4_goesOf_14 fX4_9 rfl (zPlan.k hp) (j := 0) (by decide) rfl (zPlan.f300 hp) ?_
        refine zT.iload_n 3 dX4_goesOf_17 rfl rfl ?_
        refine zT.iald dX4_goesOf_18 (zPlan.a300 hp) (by first | assumption | exact zq_i _ | exact zand_i _ _ | exact zor_i _ _ | exact zxor_i _ _ | exact zN _ | omega) (by rw [(zPlan.n300 hp)]; first | assumption | exact zq_i _ | exact zand_i _ _ | exact zor_i _ _ | exact zxor_i _ _ | exact zN _ | omega) (fun z18 => ?_)
        refine zT.iload_n 1 dX4_goesOf_19 rfl rfl ?_
        refine zT.ic_ne (tgt := 27) dX4_goesOf_20 (by decide) (by first | assumption | exact zq_i _ | exact zand_i _ _ | exact zor_i _ _ | exact zxor_i _ _ | exact zN _ | omega) (by first | assumption | exact zq_i _ | exact zand_i _ _ | exact zor_i _ _ | exact zxor_i _ _ | exact zN _ | omega) (fun c20 => ?_) (fun c20 => ?_)
        · refine zT.iconst dX4_goesOf_27 ?_
          refine zT.iadd dX4_goesOf_28 ?_
          refine zT.istore_n 2 dX4_goesOf_29 rfl (by decide) (zpre1 rfl (zcI _)) ?_
          show zT G _ _ _ [zR p, zI s, zI (v + 0), zI k] _ _ _ _ _ _ _
          refine zT.iinc 3 dX4_goesOf_30 rfl (by decide) (zpre1 rfl (zcI _)) ?_
          show zT G _ _ _ [zR p, zI s, zI (v + 0), zI (k + 1)] _ _ _ _ _ _ _
          refine zT.goto (tgt := 4) dX4_goesOf_33 (by decide) ?_
          exact ih4 _ _ (by first | assumption | exact zq_i _ | exact zand_i _ _ | exact zor_i _ _ | exact zxor_i _ _ | exact zN _ | omega) (by first | assumption | exact zq_i _ | exact zand_i _ _ | exact zor_i _ _ | exact zxor_i _ _ | exact zN _ | omega) (by unfold zgoes at *; rw [zs_s k0]; split <;> omega) (by omega)
        · refine zT.iconst dX4_goesOf_23 ?_
          refine zT.goto (tgt := 28) dX4_goesOf_24 (by decide) ?_
          refine zT.iadd dX4_goesOf_28 ?_
          refine zT.istore_n 2 dX4_goesOf_29 rfl (by decide) (zpre1 rfl (zcI _)) ?_
          show zT G _ _ _ [zR p, zI s, zI (v + 1), zI k] _ _ _ _ _ _ _
          refine zT.iinc 3 dX4_goesOf_30 rfl (by decide) (zpre1 rfl (zcI _)) ?_
          show zT G _ _ _ [zR p, zI s, zI (v + 1), zI (k + 1)] _ _ _ _ _ _ _
          refine zT.goto (tgt := 4) dX4_goesOf_33 (by decide) ?_
          exact ih4 _ _ (by first | assumption | exact zq_i _ | exact zand_i _ _ | exact zor_i _ _ | exact zxor_i _ _ | exact zN _ | omega) (by first | assumption | exact zq_i _ | exact zand_i _ _ | exact zor_i _ _ | exact zxor_i _ _ | exact zN _ | omega) (by unfold zgoes at *; rw [zs_s k0]; split <;> omega) (by omega)
  exact L4 _ _ _ (by first | assumption | exact zq_i _ | exact zand_i _ _ | exact zor_i _ _ | exact zxor_i _ _ | exact zN _ | omega) (by exact hPl.1) (by rfl) (Nat.lt_succ_self _)

def zendS (m : zMm) (p s : Int) : Int → Int := zmx (fun j => if m (p + 1) j = s then m (p + 3) j + m (p + 5) j else 0)
theorem zendS_b {m : zMm} {p s k : Int} (h : zPl m p) (hk : k ≤ m p 305) : 0 ≤ zendS m p s k ∧ zendS m p s k ≤ 1400 := zmx_b (by omega) (fun j a b => by have := h.2.2 j a (by omega); split <;> omega)
theorem C_X4_ends_2 {G : zG} {S : zS} {m : zMm} {p s : Int} (hp : zPlan S p) (hPl : zPl m p) (hs : zi s) : zC G mX4_ends_2 1 0 0 [zR p, zI s] S m (zDet (some (zI (zendS m p s (m p 305)))) S m) zNX := by
  have hPl1 := hPl.2.1
  refine zC.of [zR p, zI s, zU, zU] (by decide) rfl (zEn1 (zcR _) (zEn1 (zcI _) (zEn0 (by simp)))) rfl ?_
  refine zT.iconst dX4_ends_2_0 ?_
  refine zT.istore_n 2 dX4_ends_2_1 rfl (by decide) (zpre1 rfl (zcI _)) ?_
  show zT G _ _ _ [zR p, zI s, zI 0, zU] _ _ _ _ _ _ _
  refine zT.iconst dX4_ends_2_2 ?_
  refine zT.istore_n 3 dX4_ends_2_3 rfl (by decide) (zpre1 rfl (zcI _)) ?_
  show zT G _ _ _ [zR p, zI s, zI 0, zI 0] _ _ _ _ _ _ _
  have L4 : ∀ (N : Nat) (k : Int) (v : Int), (0 ≤ k) → (k ≤ m p 305) → (v = zendS m p s k) → ((m p 305 - k).toNat) < N → zT G mX4_ends_2 1 4 [zR p, zI s, zI v, zI k] [] S m 0 0 (zDet (some (zI (zendS m p s (m p 305)))) S m) zNX := by
    intro N
    induction N with
    | zero => intro k v k0 k1 hv hN; exact absurd hN (Nat.not_lt_zero _)
    | succ N ih4 =>
      intro k v k0 k1 hv hN
      have hb := zendS_b (s := s) hPl k1
      rw [← hv] at hb
      refine zT.iload_n 3 dX4_ends_2_4 rfl rfl ?_
      refine zT.aload_n 0 dX4_ends_2_5 rfl rfl ?_
      refine zT.getI dX4_ends_2_6 fX4_27 rfl (zPlan.k hp) (j := 5) (by decide) rfl (fun z6 => ?_)
      refine zT.ic_ge (tgt := 38) dX4_ends_2_9 (by decide) (by first | assumption | exact zq_i _ | exact zand_i _ _ | exact zor_i _ _ | exact zxor_i _ _ | exact zN _ | omega) (by first | assumption | exact zq_i _ | exact zand_i _ _ | exact zor_i _ _ | exact zxor_i _ _ | exact zN _ | omega) (fun c9 => ?_) (fun c9 => ?_)
      · refine zT.iload_n 2 dX4_ends_2_38 rfl rfl ?_
        refine zT.iret dX4_ends_2_39 rfl ?_
        rw [hv, show k = m p 305 by omega]; exact ⟨rfl, rfl, rfl⟩
      · have hrk := hPl.2.2 k (by omega) (by omega)
        refine zT.aload_n 0 dX4_ends_2_12 rfl rfl ?_
        refine zT.getF dX4_ends_2_13 fX4_9 rfl (zPlan.k hp) (j := 0) (by decide) rfl (zPlan.f300 hp) ?_
        refine zT.iload_n 3 dX4_ends_2_16 rfl rfl ?_
        refine zT.iald dX4_ends_2_17 (zPlan.a300 hp) (by first | assumption | exact zq_i _ | exact zand_i _ _ | exact zor_i _ _ | exact zxor_i _ _ | exact zN _ | omega) (by rw [(zPlan.n300 hp)]; first | assumption | exact zq_i _ | exact zand_i _ _ | exact zor_i _ _ | exact zxor_i _ _ | exact zN _ | omega) (fun z17 => ?_)
        refine zT.iload_n 1 dX4_ends_2_18 rfl rfl ?_
        refine zT.ic_ne (tgt := 32) dX4_ends_2_19 (by decide) (by first | assumption | exact zq_i _ | exact zand_i _ _ | exact zor_i _ _ | exact zxor_i _ _ | exact zN _ | omega) (by first | assumption | exact zq_i _ | exact zand_i _ _ | exact zor_i _ _ | exact zxor_i _ _ | exact zN _ | omega) (fun c19 => ?_) (fun c19 => ?_)
        · refine zT.iinc 3 dX4_ends_2_32 rfl (by decide) (zpre1 rfl (zcI _)) ?_
          show zT G _ _ _ [zR p, zI s, zI v, zI (k + 1)] _ _ _ _ _ _ _
          refine zT.goto (tgt := 4) dX4_ends_2_35 (by decide) ?_
          exact ih4 _ _ (by first | assumption | exact zq_i _ | exact zand_i _ _ | exact zor_i _ _ | exact zxor_i _ _ | exact zN _ | omega) (by first | assumption | exact zq_i _ | exact zand_i _ _ | exact zor_i _ _ | exact zxor_i _ _ | exact zN _ | omega) (by unfold zendS at *; rw [zmx_s k0]; split <;> omega) (by omega)
        · refine zT.iload_n 2 dX4_ends_2_22 rfl rfl ?_
          refine zT.aload_n 0 dX4_ends_2_23 rfl rfl ?_
          refine zT.iload_n 3 dX4_ends_2_24 rfl rfl ?_
          refine zT.callV (M' := mX4_end) (b := p) [zI k] [zI v] dX4_ends_2_25 kX4_37 rfl rfl (ci := 3) (r := (RX4, TX4, 6)) rfl (zPlan.k hp) (C_X4_end hp (by first | assumption | exact zq_i _ | exact zand_i _ _ | exact zor_i _ _ | exact zxor_i _ _ | exact zN _ | omega) (by first | assumption | exact zq_i _ | exact zand_i _ _ | exact zor_i _ _ | exact zxor_i _ _ | exact zN _ | omega)) (by decide) (k' := 0) (n' := 0) (by omega) (by omega) (by simp only [List.map, zcI, zcJ, zcR, List.sum_cons, List.sum_nil]; decide) (zdk (v := some (zI (m (p + 3) k + m (p + 5) k))) ?_) (fun _ _ _ _ h => h.elim)
          show zT G _ _ _ _ [zI (m (p + 3) k + m (p + 5) k), zI v] _ _ _ _ _ _
          refine zT.mmax dX4_ends_2_28 q907 (by first | assumption | exact zq_i _ | exact zand_i _ _ | exact zor_i _ _ | exact zxor_i _ _ | exact zN _ | omega) (by first | assumption | exact zq_i _ | exact zand_i _ _ | exact zor_i _ _ | exact zxor_i _ _ | exact zN _ | omega) (by decide) (by decide) ?_
          refine zT.istore_n 2 dX4_ends_2_31 rfl (by decide) (zpre1 rfl (zcI _)) ?_
          show zT G _ _ _ [zR p, zI s, zI (max v (m (p + 3) k + m (p + 5) k)), zI k] _ _ _ _ _ _ _
          refine zT.iinc 3 dX4_ends_2_32 rfl (by decide) (zpre1 rfl (zcI _)) ?_
          show zT G _ _ _ [zR p, zI s, zI (max v (m (p + 3) k + m (p + 5) k)), zI (k + 1)] _ _ _ _ _ _ _
          refine zT.goto (tgt := 4) dX4_ends_2_35 (by decide) ?_
          exact ih4 _ _ (by first | assumption | exact zq_i _ | exact zand_i _ _ | exact zor_i _ _ | exact zxor_i _ _ | exact zN _ | omega) (by first | assumption | exact zq_i _ | exact zand_i _ _ | exact zor_i _ _ | exact zxor_i _ _ | exact zN _ | omega) (by unfold zendS at *; rw [zmx_s k0]; split <;> omega) (by omega)
  exact L4 _ _ _ (by first | assumption | exact zq_i _ | exact zand_i _ _ | exact zor_i _ _ | exact zxor_i _ _ | exact zN _ | omega) (by exact hPl.1) (by rfl) (Nat.lt_succ_self _)

theorem zhad_b {m : zMm} {p s c k : Int} (h : zPl m p) (hk0 : 0 ≤ k) (hk : k ≤ m p 305) : 0 ≤ zhad m p s c k ∧ zhad m p s c k ≤ k * 400 := zs_b hk0 (fun j a b => by have := h.2.2 j a (by omega); split <;> omega)
/-- a kitchen whose numbers are in range -/
def zKi (m : zMm) (x : Int) : Prop := 0 ≤ m x 208 ∧ m x 208 ≤ 8 ∧ 0 ≤ m x 209 ∧ m x 209 ≤ 8 ∧ 0 ≤ m x 210 ∧ m x 210 ≤ 5 ∧ 1 ≤ m x 211 ∧ m x 211 ≤ 4 ∧ 0 ≤ m x 212 ∧ m x 212 ≤ 9 ∧ 0 ≤ m x 213 ∧ m x 213 ≤ 99 ∧ 0 ≤ m x 214 ∧ m x 214 < m x 215 ∧ m x 215 ≤ 20 ∧
  (∀ j, 0 ≤ j → j < 2 * m x 208 → 1 ≤ m (x + 3) j ∧ m (x + 3) j ≤ 20) ∧ (∀ j, 0 ≤ j → j < m x 209 → 0 ≤ m (x + 4) j ∧ m (x + 4) j ≤ 240 ∧ 0 ≤ m (x + 5) j ∧ m (x + 5) j ≤ 99) ∧ (∀ j, 0 ≤ j → j < m x 210 → 1 ≤ m (x + 6) j ∧ m (x + 6) j ≤ 9 ∧ 1 ≤ m (x + 7) j ∧ m (x + 7) j ≤ 99)
theorem zKi.mi {m : zMm} {x : Int} (h : zKi m x) : ∀ j, 0 ≤ j → j < 2 * m x 208 → 1 ≤ m (x + 3) j ∧ m (x + 3) j ≤ 20 := h.2.2.2.2.2.2.2.2.2.2.2.2.2.2.2.1
theorem zKi.gu {m : zMm} {x : Int} (h : zKi m x) : ∀ j, 0 ≤ j → j < m x 209 → 0 ≤ m (x + 4) j ∧ m (x + 4) j ≤ 240 ∧ 0 ≤ m (x + 5) j ∧ m (x + 5) j ≤ 99 := h.2.2.2.2.2.2.2.2.2.2.2.2.2.2.2.2.1
theorem zKi.so {m : zMm} {x : Int} (h : zKi m x) : ∀ j, 0 ≤ j → j < m x 210 → 1 ≤ m (x + 6) j ∧ m (x + 6) j ≤ 9 ∧ 1 ≤ m (x + 7) j ∧ m (x + 7) j ≤ 99 := h.2.2.2.2.2.2.2.2.2.2.2.2.2.2.2.2.2
theorem zKi.nu {m : zMm} {x : Int} (h : zKi m x) : 0 ≤ m x 208 ∧ m x 208 ≤ 8 ∧ 0 ≤ m x 209 ∧ m x 209 ≤ 8 ∧ 0 ≤ m x 210 ∧ m x 210 ≤ 5 ∧ 1 ≤ m x 211 ∧ m x 211 ≤ 4 ∧ 0 ≤ m x 212 ∧ m x 212 ≤ 9 ∧ 0 ≤ m x 213 ∧ m x 213 ≤ 99 ∧ 0 ≤ m x 214 ∧ m x 214 < m x 215 ∧ m x 215 ≤ 20 := by
  unfold zKi at h
  omega
theorem C_X4_left {G : zG} {S : zS} {m : zMm} {p x s c : Int} (hp : zPlan S p) (hPl : zPl m p) (hx : zKit S x) (hs : 0 ≤ s ∧ s < 8) (hc : 0 ≤ c ∧ c < 2) : zC G mX4_left 1 0 0 [zR p, zR x, zI s, zI c] S m (zDet (some (zI (m (x + 3) (2 * s + c) - zhad m p s c (m p 305)))) S m) zNX := by
  have hPl0 := hPl.1
  have hPl1 := hPl.2.1
  refine zC.of [zR p, zR x, zI s, zI c] (by decide) rfl (zEn1 (zcR _) (zEn1 (zcR _) (zEn1 (zcI _) (zEn1 (zcI _) (zEn0 (by simp)))))) rfl ?_
  refine zT.aload_n 1 dX4_left_0 rfl rfl ?_
  refine zT.getF dX4_left_1 fX4_55 rfl (zKit.k hx) (j := 2) (by decide) rfl (zKit.f202 hx) ?_
  refine zT.iconst dX4_left_4 ?_
  refine zT.iload_n 2 dX4_left_5 rfl rfl ?_
  refine zT.imul dX4_left_6 ?_
  refine zT.iload_n 3 dX4_left_7 rfl rfl ?_
  refine zT.iadd dX4_left_8 ?_
  refine zT.iald dX4_left_9 (zKit.a202 hx) (by first | assumption | exact zq_i _ | exact zand_i _ _ | exact zor_i _ _ | exact zxor_i _ _ | exact zN _ | omega) (by rw [(zKit.n202 hx)]; first | assumption | exact zq_i _ | exact zand_i _ _ | exact zor_i _ _ | exact zxor_i _ _ | exact zN _ | omega) (fun z9 => ?_)
  refine zT.aload_n 0 dX4_left_10 rfl rfl ?_
  refine zT.iload_n 2 dX4_left_11 rfl rfl ?_
  refine zT.iload_n 3 dX4_left_12 rfl rfl ?_
  refine zT.aload_n 0 dX4_left_13 rfl rfl ?_
  refine zT.getI dX4_left_14 fX4_27 rfl (zPlan.k hp) (j := 5) (by decide) rfl (fun z14 => ?_)
  refine zT.callV (M' := mX4_had) (b := p) [zI s, zI c, zI (m p 305)] [zI (m (x + 3) ((2 * s) + c))] dX4_left_17 kX4_51 rfl rfl (ci := 3) (r := (RX4, TX4, 6)) rfl (zPlan.k hp) (C_X4_had hp (by first | assumption | exact zq_i _ | exact zand_i _ _ | exact zor_i _ _ | exact zxor_i _ _ | exact zN _ | omega) (by first | assumption | exact zq_i _ | exact zand_i _ _ | exact zor_i _ _ | exact zxor_i _ _ | exact zN _ | omega) (by first | assumption | exact zq_i _ | exact zand_i _ _ | exact zor_i _ _ | exact zxor_i _ _ | exact zN _ | omega) (by first | assumption | exact zq_i _ | exact zand_i _ _ | exact zor_i _ _ | exact zxor_i _ _ | exact zN _ | omega)) (by decide) (k' := 0) (n' := 0) (by omega) (by omega) (by simp only [List.map, zcI, zcJ, zcR, List.sum_cons, List.sum_nil]; decide) (zdk (v := some (zI (zhad m p s c (m p 305)))) ?_) (fun _ _ _ _ h => h.elim)
  show zT G _ _ _ _ [zI (zhad m p s c (m p 305)), zI (m (x + 3) ((2 * s) + c))] _ _ _ _ _ _
  refine zT.isub dX4_left_20 ?_
  refine zT.iret dX4_left_21 rfl ?_
  exact ⟨rfl, rfl, rfl⟩

theorem C_X4_isDone {G : zG} {S : zS} {m : zMm} {p x s : Int} (hp : zPlan S p) (hPl : zPl m p) (hx : zKit S x) (hKi : zKi m x) (hs : 0 ≤ s ∧ s < m x 208) : zC G mX4_isDone 2 0 0 [zR p, zR x, zI s] S m (zDet (some (zI (zq (m (x + 3) (2 * s + 0) - zhad m p s 0 (m p 305) ≤ 0 ∧ m (x + 3) (2 * s + 1) - zhad m p s 1 (m p 305) ≤ 0)))) S m) zNX := by
  have hPl0 := hPl.1
  have hPl1 := hPl.2.1
  have hn := hKi.nu
  have hb0 := zhad_b (s := s) (c := 0) hPl hPl0 (Int.le_refl _)
  have hb1 := zhad_b (s := s) (c := 1) hPl hPl0 (Int.le_refl _)
  have hm0 := hKi.mi (2 * s + 0) (by omega) (by omega)
  have hm1 := hKi.mi (2 * s + 1) (by omega) (by omega)
  refine zC.of [zR p, zR x, zI s] (by decide) rfl (zEn1 (zcR _) (zEn1 (zcR _) (zEn1 (zcI _) (zEn0 (by simp))))) rfl ?_
  refine zT.aload_n 0 dX4_isDone_0 rfl rfl ?_
  refine zT.aload_n 1 dX4_isDone_1 rfl rfl ?_
  refine zT.iload_n 2 dX4_isDone_2 rfl rfl ?_
  refine zT.iconst dX4_isDone_3 ?_
  refine zT.callV (M' := mX4_left) (b := p) [zR x, zI s, zI 0] [] dX4_isDone_4 kX4_67 rfl rfl (ci := 3) (r := (RX4, TX4, 6)) rfl (zPlan.k hp) (C_X4_left hp hPl hx (by first | assumption | exact zq_i _ | exact zand_i _ _ | exact zor_i _ _ | exact zxor_i _ _ | exact zN _ | omega) (by first | assumption | exact zq_i _ | exact zand_i _ _ | exact zor_i _ _ | exact zxor_i _ _ | exact zN _ | omega)) (by decide) (k' := 0) (n' := 0) (by omega) (by omega) (by decide) (zdk (v := some (zI (m (x + 3) (2 * s + 0) - zhad m p s 0 (m p 305)))) ?_) (fun _ _ _ _ h => h.elim)
  show zT G _ _ _ _ [zI (m (x + 3) (2 * s + 0) - zhad m p s 0 (m p 305))] _ _ _ _ _ _
  refine zT.if_gt (tgt := 24) dX4_isDone_7 (by decide) (by first | assumption | exact zq_i _ | exact zand_i _ _ | exact zor_i _ _ | exact zxor_i _ _ | exact zN _ | omega) (fun c7 => ?_) (fun c7 => ?_)
  · refine zT.iconst dX4_isDone_24 ?_
    refine zT.zret dX4_isDone_25 rfl (by omega) ?_
    (first | rw [zq_t (by omega)] | rw [zq_f (by omega)]); exact ⟨rfl, rfl, rfl⟩
  · refine zT.aload_n 0 dX4_isDone_10 rfl rfl ?_
    refine zT.aload_n 1 dX4_isDone_11 rfl rfl ?_
    refine zT.iload_n 2 dX4_isDone_12 rfl rfl ?_
    refine zT.iconst dX4_isDone_13 ?_
    refine zT.callV (M' := mX4_left) (b := p) [zR x, zI s, zI 1] [] dX4_isDone_14 kX4_67 rfl rfl (ci := 3) (r := (RX4, TX4, 6)) rfl (zPlan.k hp) (C_X4_left hp hPl hx (by first | assumption | exact zq_i _ | exact zand_i _ _ | exact zor_i _ _ | exact zxor_i _ _ | exact zN _ | omega) (by first | assumption | exact zq_i _ | exact zand_i _ _ | exact zor_i _ _ | exact zxor_i _ _ | exact zN _ | omega)) (by decide) (k' := 0) (n' := 0) (by omega) (by omega) (by decide) (zdk (v := some (zI (m (x + 3) (2 * s + 1) - zhad m p s 1 (m p 305)))) ?_) (fun _ _ _ _ h => h.elim)
    show zT G _ _ _ _ [zI (m (x + 3) (2 * s + 1) - zhad m p s 1 (m p 305))] _ _ _ _ _ _
    refine zT.if_gt (tgt := 24) dX4_isDone_17 (by decide) (by first | assumption | exact zq_i _ | exact zand_i _ _ | exact zor_i _ _ | exact zxor_i _ _ | exact zN _ | omega) (fun c17 => ?_) (fun c17 => ?_)
    · refine zT.iconst dX4_isDone_24 ?_
      refine zT.zret dX4_isDone_25 rfl (by omega) ?_
      (first | rw [zq_t (by omega)] | rw [zq_f (by omega)]); exact ⟨rfl, rfl, rfl⟩
    · refine zT.iconst dX4_isDone_20 ?_
      refine zT.goto (tgt := 25) dX4_isDone_21 (by decide) ?_
      refine zT.zret dX4_isDone_25 rfl (by omega) ?_
      (first | rw [zq_t (by omega)] | rw [zq_f (by omega)]); exact ⟨rfl, rfl, rfl⟩

theorem C_X3_whole {G : zG} {S : zS} {m : zMm} {x s : Int} (hx : zKit S x) (hs : 0 ≤ s ∧ s < 8) : zC G mX3_whole 0 0 0 [zR x, zI s] S m (zDet (some (zI (m (x + 3) (2 * s) + m (x + 3) (2 * s + 1)))) S m) zNX := by
  refine zC.of [zR x, zI s] (by decide) rfl (zEn1 (zcR _) (zEn1 (zcI _) (zEn0 (by simp)))) rfl ?_
  refine zT.aload_n 0 dX3_whole_0 rfl rfl ?_
  refine zT.getF dX3_whole_1 fX3_18 rfl (zKit.k hx) (j := 2) (by decide) rfl (zKit.f202 hx) ?_
  refine zT.iconst dX3_whole_4 ?_
  refine zT.iload_n 1 dX3_whole_5 rfl rfl ?_
  refine zT.imul dX3_whole_6 ?_
  refine zT.iald dX3_whole_7 (zKit.a202 hx) (by first | assumption | exact zq_i _ | exact zand_i _ _ | exact zor_i _ _ | exact zxor_i _ _ | exact zN _ | omega) (by rw [(zKit.n202 hx)]; first | assumption | exact zq_i _ | exact zand_i _ _ | exact zor_i _ _ | exact zxor_i _ _ | exact zN _ | omega) (fun z7 => ?_)
  refine zT.aload_n 0 dX3_whole_8 rfl rfl ?_
  refine zT.getF dX3_whole_9 fX3_18 rfl (zKit.k hx) (j := 2) (by decide) rfl (zKit.f202 hx) ?_
  refine zT.iconst dX3_whole_12 ?_
  refine zT.iload_n 1 dX3_whole_13 rfl rfl ?_
  refine zT.imul dX3_whole_14 ?_
  refine zT.iconst dX3_whole_15 ?_
  refine zT.iadd dX3_whole_16 ?_
  refine zT.iald dX3_whole_17 (zKit.a202 hx) (by first | assumption | exact zq_i _ | exact zand_i _ _ | exact zor_i _ _ | exact zxor_i _ _ | exact zN _ | omega) (by rw [(zKit.n202 hx)]; first | assumption | exact zq_i _ | exact zand_i _ _ | exact zor_i _ _ | exact zxor_i _ _ | exact zN _ | omega) (fun z17 => ?_)
  refine zT.iadd dX3_whole_18 ?_
  refine zT.iret dX3_whole_19 rfl ?_
  exact ⟨rfl, rfl, rfl⟩

def zall (m : zMm) (x : Int) : Int → Int := zs (fun s => m (x + 3) (2 * s) + m (x + 3) (2 * s + 1))
theorem C_X3_all {G : zG} {S : zS} {m : zMm} {x : Int} (hx : zKit S x) (hKi : zKi m x) : zC G mX3_all 1 0 0 [zR x] S m (zDet (some (zI (zall m x (m x 208)))) S m) zNX := by
  have hn := hKi.nu
  refine zC.of [zR x, zU, zU] (by decide) rfl (zEn1 (zcR _) (zEn0 (by simp))) rfl ?_
  refine zT.iconst dX3_all_0 ?_
  refine zT.istore_n 1 dX3_all_1 rfl (by decide) (zpre1 rfl (zcR _)) ?_
  show zT G _ _ _ [zR x, zI 0, zU] _ _ _ _ _ _ _
  refine zT.iconst dX3_all_2 ?_
  refine zT.istore_n 2 dX3_all_3 rfl (by decide) (zpre1 rfl (zcI _)) ?_
  show zT G _ _ _ [zR x, zI 0, zI 0] _ _ _ _ _ _ _
  have L4 : ∀ (N : Nat) (k : Int) (v : Int), (0 ≤ k) → (k ≤ m x 208) → (v = zall m x k) → ((m x 208 - k).toNat) < N → zT G mX3_all 1 4 [zR x, zI v, zI k] [] S m 0 0 (zDet (some (zI (zall m x (m x 208)))) S m) zNX := by
    intro N
    induction N with
    | zero => intro k v k0 k1 hv hN; exact absurd hN (Nat.not_lt_zero _)
    | succ N ih4 =>
      intro k v k0 k1 hv hN
      refine zT.iload_n 2 dX3_all_4 rfl rfl ?_
      refine zT.aload_n 0 dX3_all_5 rfl rfl ?_
      refine zT.getI dX3_all_6 fX3_48 rfl (zKit.k hx) (j := 8) (by decide) rfl (fun z6 => ?_)
      refine zT.ic_ge (tgt := 26) dX3_all_9 (by decide) (by first | assumption | exact zq_i _ | exact zand_i _ _ | exact zor_i _ _ | exact zxor_i _ _ | exact zN _ | omega) (by first | assumption | exact zq_i _ | exact zand_i _ _ | exact zor_i _ _ | exact zxor_i _ _ | exact zN _ | omega) (fun c9 => ?_) (fun c9 => ?_)
      · refine zT.iload_n 1 dX3_all_26 rfl rfl ?_
        refine zT.iret dX3_all_27 rfl ?_
        rw [hv, show k = m x 208 by omega]; exact ⟨rfl, rfl, rfl⟩
      · refine zT.iload_n 1 dX3_all_12 rfl rfl ?_
        refine zT.aload_n 0 dX3_all_13 rfl rfl ?_
        refine zT.iload_n 2 dX3_all_14 rfl rfl ?_
        refine zT.callV (M' := mX3_whole) (b := x) [zI k] [zI v] dX3_all_15 kX3_51 rfl rfl (ci := 2) (r := (RX3, TX3, 16)) rfl (zKit.k hx) (C_X3_whole hx (by first | assumption | exact zq_i _ | exact zand_i _ _ | exact zor_i _ _ | exact zxor_i _ _ | exact zN _ | omega)) (by decide) (k' := 0) (n' := 0) (by omega) (by omega) (by simp only [List.map, zcI, zcJ, zcR, List.sum_cons, List.sum_nil]; decide) (zdk (v := some (zI (m (x + 3) (2 * k) + m (x + 3) (2 * k + 1)))) ?_) (fun _ _ _ _ h => h.elim)
        show zT G _ _ _ _ [zI (m (x + 3) (2 * k) + m (x + 3) (2 * k + 1)), zI v] _ _ _ _ _ _
        refine zT.iadd dX3_all_18 ?_
        refine zT.istore_n 1 dX3_all_19 rfl (by decide) (zpre1 rfl (zcR _)) ?_
        show zT G _ _ _ [zR x, zI (v + (m (x + 3) (2 * k) + m (x + 3) (2 * k + 1))), zI k] _ _ _ _ _ _ _
        refine zT.iinc 2 dX3_all_20 rfl (by decide) (zpre1 rfl (zcI _)) ?_
        show zT G _ _ _ [zR x, zI (v + (m (x + 3) (2 * k) + m (x + 3) (2 * k + 1))), zI (k + 1)] _ _ _ _ _ _ _
        refine zT.goto (tgt := 4) dX3_all_23 (by decide) ?_
        exact ih4 _ _ (by first | assumption | exact zq_i _ | exact zand_i _ _ | exact zor_i _ _ | exact zxor_i _ _ | exact zN _ | omega) (by first | assumption | exact zq_i _ | exact zand_i _ _ | exact zor_i _ _ | exact zxor_i _ _ | exact zN _ | omega) (by unfold zall at *; rw [zs_s k0, ← hv]) (by omega)
  exact L4 _ _ _ (by first | assumption | exact zq_i _ | exact zand_i _ _ | exact zor_i _ _ | exact zxor_i _ _ | exact zN _ | omega) (by first | assumption | exact zq_i _ | exact zand_i _ _ | exact zor_i _ _ | exact zxor_i _ _ | exact zN _ | omega) (by rfl) (Nat.lt_succ_self _)

