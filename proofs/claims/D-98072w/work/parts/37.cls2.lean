/-! PanSlices: more that reads, the tape, judge (written by gen/m_cls2.py) -/
theorem C_X1_alikeTime {G : zG} {S : zS} {m : zMm} {n k : Int} (hn : 0 ≤ n ∧ n ≤ 4000) (hk : 1 ≤ k ∧ k ≤ 60) : zC G mX1_alikeTime 1 0 0 [zI n, zI k] S m (zDet (some (zI (max 2 ((2 * n + k - 1) / k)))) S m) zNX := by
  have hq : 0 ≤ (2 * n + k - 1) / k ∧ (2 * n + k - 1) / k ≤ 2 * n + k - 1 := ⟨Int.ediv_nonneg (by omega) (by omega), Int.ediv_le_self _ (by omega)⟩
  refine zC.of [zI n, zI k] (by decide) rfl (zEn1 (zcI _) (zEn1 (zcI _) (zEn0 (by simp)))) rfl ?_
  refine zT.iconst dX1_alikeTime_0 ?_
  refine zT.iconst dX1_alikeTime_1 ?_
  refine zT.iload_n 0 dX1_alikeTime_2 rfl rfl ?_
  refine zT.imul dX1_alikeTime_3 ?_
  refine zT.iload_n 1 dX1_alikeTime_4 rfl rfl ?_
  refine zT.iadd dX1_alikeTime_5 ?_
  refine zT.iconst dX1_alikeTime_6 ?_
  refine zT.isub dX1_alikeTime_7 ?_
  refine zT.iload_n 1 dX1_alikeTime_8 rfl rfl ?_
  refine zT.idiv dX1_alikeTime_9 (by first | assumption | exact zq_i _ | exact zand_i _ _ | exact zor_i _ _ | exact zxor_i _ _ | exact zN _ | omega) (by first | assumption | exact zq_i _ | exact zand_i _ _ | exact zor_i _ _ | exact zxor_i _ _ | exact zN _ | omega) (by first | assumption | exact zq_i _ | exact zand_i _ _ | exact zor_i _ _ | exact zxor_i _ _ | exact zN _ | omega) (by first | assumption | exact zq_i _ | exact zand_i _ _ | exact zor_i _ _ | exact zxor_i _ _ | exact zN _ | omega) ?_
  refine zT.mmax dX1_alikeTime_10 q1010 (by first | assumption | exact zq_i _ | exact zand_i _ _ | exact zor_i _ _ | exact zxor_i _ _ | exact zN _ | omega) (by first | assumption | exact zq_i _ | exact zand_i _ _ | exact zor_i _ _ | exact zxor_i _ _ | exact zN _ | omega) (by decide) (by decide) ?_
  refine zT.iret dX1_alikeTime_13 rfl ?_
  exact ⟨rfl, rfl, rfl⟩

theorem C_X1_alike {G : zG} {S : zS} {m : zMm} {x n k : Int} (hn : zi n) (hk : zi k) : zC G mX1_alike 2 0 0 [zR x, zI n, zI k] S m (zDet (some (zI (if (1 ≤ n ∧ n ≤ 4000) ∧ 1 ≤ k ∧ k ≤ 60 then max 2 ((2 * n + k - 1) / k) else -1))) S m) zNX := by
  refine zC.of [zR x, zI n, zI k] (by decide) rfl (zEn1 (zcR _) (zEn1 (zcI _) (zEn1 (zcI _) (zEn0 (by simp))))) rfl ?_
  refine zT.iload_n 1 dX1_alike_0 rfl rfl ?_
  refine zT.iload_n 2 dX1_alike_1 rfl rfl ?_
  refine zT.callS (M' := mX1_areAlike) [zI n, zI k] [] dX1_alike_2 kX1_416 rfl rfl (C_X1_areAlike (by first | assumption | exact zq_i _ | exact zand_i _ _ | exact zor_i _ _ | exact zxor_i _ _ | exact zN _ | omega) (by first | assumption | exact zq_i _ | exact zand_i _ _ | exact zor_i _ _ | exact zxor_i _ _ | exact zN _ | omega)) (by decide) (k' := 0) (n' := 0) (by omega) (by omega) (by decide) (zdk (v := some (zI (zq ((1 ≤ n ∧ n ≤ 4000) ∧ 1 ≤ k ∧ k ≤ 60)))) ?_) (fun _ _ _ _ h => h.elim)
  show zT G _ _ _ _ [zI (zq ((1 ≤ n ∧ n ≤ 4000) ∧ 1 ≤ k ∧ k ≤ 60))] _ _ _ _ _ _
  refine zT.if_eqB (tgt := 16) dX1_alike_5 (by decide) (fun c5 => ?_) (fun c5 => ?_)
  · refine zT.iconst dX1_alike_16 ?_
    refine zT.iret dX1_alike_17 rfl ?_
    first | exact ⟨by rw [if_pos (by omega)], rfl, rfl⟩ | exact ⟨by rw [if_neg (by omega)], rfl, rfl⟩
  · refine zT.iload_n 1 dX1_alike_8 rfl rfl ?_
    refine zT.iload_n 2 dX1_alike_9 rfl rfl ?_
    refine zT.callS (M' := mX1_alikeTime) [zI n, zI k] [] dX1_alike_10 kX1_419 rfl rfl (C_X1_alikeTime (by omega) (by omega)) (by decide) (k' := 0) (n' := 0) (by omega) (by omega) (by decide) (zdk (v := some (zI (max 2 ((2 * n + k - 1) / k)))) ?_) (fun _ _ _ _ h => h.elim)
    show zT G _ _ _ _ [zI (max 2 ((2 * n + k - 1) / k))] _ _ _ _ _ _
    refine zT.goto (tgt := 17) dX1_alike_13 (by decide) ?_
    refine zT.iret dX1_alike_17 rfl ?_
    first | exact ⟨by rw [if_pos (by omega)], rfl, rfl⟩ | exact ⟨by rw [if_neg (by omega)], rfl, rfl⟩

theorem C_X1_alikeAt {G : zG} {S : zS} {m : zMm} {x n k t p : Int} (hn : zi n) (hk : zi k) (ht : zi t) (hp : zi p) : zC G mX1_alikeAt 2 0 0 [zR x, zI n, zI k, zI t, zI p] S m (zDet (some (zI (if ((1 ≤ n ∧ n ≤ 4000) ∧ 1 ≤ k ∧ k ≤ 60) ∧ (0 ≤ p ∧ p ≤ k - 1) ∧ (0 ≤ t ∧ t ≤ max 2 ((2 * n + k - 1) / k) - 1) ∧ max 2 ((2 * n + k - 1) / k) * p + t < 2 * n then max 2 ((2 * n + k - 1) / k) * p + t else -1))) S m) zNX := by
  refine zC.of [zR x, zI n, zI k, zI t, zI p, zU] (by decide) rfl (zEn1 (zcR _) (zEn1 (zcI _) (zEn1 (zcI _) (zEn1 (zcI _) (zEn1 (zcI _) (zEn0 (by simp))))))) rfl ?_
  refine zT.iload_n 1 dX1_alikeAt_0 rfl rfl ?_
  refine zT.iload_n 2 dX1_alikeAt_1 rfl rfl ?_
  refine zT.callS (M' := mX1_areAlike) [zI n, zI k] [] dX1_alikeAt_2 kX1_416 rfl rfl (C_X1_areAlike (by first | assumption | exact zq_i _ | exact zand_i _ _ | exact zor_i _ _ | exact zxor_i _ _ | exact zN _ | omega) (by first | assumption | exact zq_i _ | exact zand_i _ _ | exact zor_i _ _ | exact zxor_i _ _ | exact zN _ | omega)) (by decide) (k' := 0) (n' := 0) (by omega) (by omega) (by decide) (zdk (v := some (zI (zq ((1 ≤ n ∧ n ≤ 4000) ∧ 1 ≤ k ∧ k ≤ 60)))) ?_) (fun _ _ _ _ h => h.elim)
  show zT G _ _ _ _ [zI (zq ((1 ≤ n ∧ n ≤ 4000) ∧ 1 ≤ k ∧ k ≤ 60))] _ _ _ _ _ _
  refine zT.if_eqB (tgt := 35) dX1_alikeAt_5 (by decide) (fun c5 => ?_) (fun c5 => ?_)
  · refine zT.iconst dX1_alikeAt_35 ?_
    refine zT.iret dX1_alikeAt_36 rfl ?_
    refine ⟨?_, rfl, rfl⟩
    first
      | (rw [if_pos (by omega), hcm]; done)
      | rw [if_neg (by omega)]
  · refine zT.iload 4 dX1_alikeAt_8 rfl ?_
    refine zT.iconst dX1_alikeAt_10 ?_
    refine zT.iload_n 2 dX1_alikeAt_11 rfl rfl ?_
    refine zT.iconst dX1_alikeAt_12 ?_
    refine zT.isub dX1_alikeAt_13 ?_
    refine zT.callS (M' := mX1_isIn) [zI p, zI 0, zI (k - 1)] [] dX1_alikeAt_14 kX1_231 rfl rfl (C_X1_isIn (by first | assumption | exact zq_i _ | exact zand_i _ _ | exact zor_i _ _ | exact zxor_i _ _ | exact zN _ | omega) (by first | assumption | exact zq_i _ | exact zand_i _ _ | exact zor_i _ _ | exact zxor_i _ _ | exact zN _ | omega) (by first | assumption | exact zq_i _ | exact zand_i _ _ | exact zor_i _ _ | exact zxor_i _ _ | exact zN _ | omega)) (by decide) (k' := 0) (n' := 0) (by omega) (by omega) (by decide) (zdk (v := some (zI (zq (0 ≤ p ∧ p ≤ (k - 1))))) ?_) (fun _ _ _ _ h => h.elim)
    show zT G _ _ _ _ [zI (zq (0 ≤ p ∧ p ≤ (k - 1)))] _ _ _ _ _ _
    refine zT.if_eqB (tgt := 35) dX1_alikeAt_17 (by decide) (fun c17 => ?_) (fun c17 => ?_)
    · refine zT.iconst dX1_alikeAt_35 ?_
      refine zT.iret dX1_alikeAt_36 rfl ?_
      refine ⟨?_, rfl, rfl⟩
      first
        | (rw [if_pos (by omega), hcm]; done)
        | rw [if_neg (by omega)]
    · refine zT.iload_n 3 dX1_alikeAt_20 rfl rfl ?_
      refine zT.iconst dX1_alikeAt_21 ?_
      refine zT.iload_n 1 dX1_alikeAt_22 rfl rfl ?_
      refine zT.iload_n 2 dX1_alikeAt_23 rfl rfl ?_
      refine zT.callS (M' := mX1_alikeTime) [zI n, zI k] [zI 0, zI t] dX1_alikeAt_24 kX1_419 rfl rfl (C_X1_alikeTime (by omega) (by omega)) (by decide) (k' := 0) (n' := 0) (by omega) (by omega) (by simp only [List.map, zcI, zcJ, zcR, List.sum_cons, List.sum_nil]; decide) (zdk (v := some (zI (max 2 ((2 * n + k - 1) / k)))) ?_) (fun _ _ _ _ h => h.elim)
      show zT G _ _ _ _ [zI (max 2 ((2 * n + k - 1) / k)), zI 0, zI t] _ _ _ _ _ _
      have hq : 0 ≤ (2 * n + k - 1) / k ∧ (2 * n + k - 1) / k ≤ 2 * n + k - 1 := ⟨Int.ediv_nonneg (by omega) (by omega), Int.ediv_le_self _ (by omega)⟩
      refine zT.iconst dX1_alikeAt_27 ?_
      refine zT.isub dX1_alikeAt_28 ?_
      refine zT.callS (M' := mX1_isIn) [zI t, zI 0, zI ((max 2 ((2 * n + k - 1) / k)) - 1)] [] dX1_alikeAt_29 kX1_231 rfl rfl (C_X1_isIn (by first | assumption | exact zq_i _ | exact zand_i _ _ | exact zor_i _ _ | exact zxor_i _ _ | exact zN _ | omega) (by first | assumption | exact zq_i _ | exact zand_i _ _ | exact zor_i _ _ | exact zxor_i _ _ | exact zN _ | omega) (by first | assumption | exact zq_i _ | exact zand_i _ _ | exact zor_i _ _ | exact zxor_i _ _ | exact zN _ | omega)) (by decide) (k' := 0) (n' := 0) (by omega) (by omega) (by decide) (zdk (v := some (zI (zq (0 ≤ t ∧ t ≤ ((max 2 ((2 * n + k - 1) / k)) - 1))))) ?_) (fun _ _ _ _ h => h.elim)
      show zT G _ _ _ _ [zI (zq (0 ≤ t ∧ t ≤ ((max 2 ((2 * n + k - 1) / k)) - 1)))] _ _ _ _ _ _
      refine zT.if_neB (tgt := 37) dX1_alikeAt_32 (by decide) (fun c32 => ?_) (fun c32 => ?_)
      · refine zT.iload 4 dX1_alikeAt_37 rfl ?_
        refine zT.iload_n 1 dX1_alikeAt_39 rfl rfl ?_
        refine zT.iload_n 2 dX1_alikeAt_40 rfl rfl ?_
        refine zT.callS (M' := mX1_alikeTime) [zI n, zI k] [zI p] dX1_alikeAt_41 kX1_419 rfl rfl (C_X1_alikeTime (by omega) (by omega)) (by decide) (k' := 0) (n' := 0) (by omega) (by omega) (by simp only [List.map, zcI, zcJ, zcR, List.sum_cons, List.sum_nil]; decide) (zdk (v := some (zI (max 2 ((2 * n + k - 1) / k)))) ?_) (fun _ _ _ _ h => h.elim)
        show zT G _ _ _ _ [zI (max 2 ((2 * n + k - 1) / k)), zI p] _ _ _ _ _ _
        have hzm := zmulb (a := p) (A := 60) (b := max 2 ((2 * n + k - 1) / k)) (B := 8059) (by omega) (by omega) (by omega) (by omega)
        have hcm : p * max 2 ((2 * n + k - 1) / k) = max 2 ((2 * n + k - 1) / k) * p := Int.mul_comm _ _
        refine zT.imul dX1_alikeAt_44 ?_
        refine zT.iload_n 3 dX1_alikeAt_45 rfl rfl ?_
        refine zT.iadd dX1_alikeAt_46 ?_
        refine zT.istore 5 dX1_alikeAt_47 (by decide) (zpre1 rfl (zcI _)) ?_
        show zT G _ _ _ [zR x, zI n, zI k, zI t, zI p, zI ((p * (max 2 ((2 * n + k - 1) / k))) + t)] _ _ _ _ _ _ _
        refine zT.iload 5 dX1_alikeAt_49 rfl ?_
        refine zT.iconst dX1_alikeAt_51 ?_
        refine zT.iload_n 1 dX1_alikeAt_52 rfl rfl ?_
        refine zT.imul dX1_alikeAt_53 ?_
        refine zT.ic_ge (tgt := 62) dX1_alikeAt_54 (by decide) (by first | assumption | exact zq_i _ | exact zand_i _ _ | exact zor_i _ _ | exact zxor_i _ _ | exact zN _ | omega) (by first | assumption | exact zq_i _ | exact zand_i _ _ | exact zor_i _ _ | exact zxor_i _ _ | exact zN _ | omega) (fun c54 => ?_) (fun c54 => ?_)
        · refine zT.iconst dX1_alikeAt_62 ?_
          refine zT.iret dX1_alikeAt_63 rfl ?_
          refine ⟨?_, rfl, rfl⟩
          first
            | (rw [if_pos (by omega), hcm]; done)
            | rw [if_neg (by omega)]
        · refine zT.iload 5 dX1_alikeAt_57 rfl ?_
          refine zT.goto (tgt := 63) dX1_alikeAt_59 (by decide) ?_
          refine zT.iret dX1_alikeAt_63 rfl ?_
          refine ⟨?_, rfl, rfl⟩
          first
            | (rw [if_pos (by omega), hcm]; done)
            | rw [if_neg (by omega)]
      · refine zT.iconst dX1_alikeAt_35 ?_
        refine zT.iret dX1_alikeAt_36 rfl ?_
        refine ⟨?_, rfl, rfl⟩
        first
          | (rw [if_pos (by omega), hcm]; done)
          | rw [if_neg (by omega)]

theorem zall_a {S : zS} {m : zMm} {p : Int} {K : Int → Int} (h : zKR S m p K) {k : Int} (hk : k ≤ 8) : zall m p k = fAll K k := zs_c (fun j a q => by obtain ⟨e1, e2, e3⟩ := h.2.2.1 j a (by omega); rw [e1, e2])
theorem fAll_b {K : Int → Int} (h : zKV K) {k : Int} (h0 : 0 ≤ k) (hk : k ≤ 8) : 0 ≤ fAll K k ∧ fAll K k ≤ k * 40 := zs_b h0 (fun j a q => by have := h.2.1 j a (by omega); omega)
theorem fTop_b {K : Int → Int} (h : zKV K) {c k : Int} (hc : c = 0 ∨ c = 1) (h0 : 0 ≤ k) (hk : k ≤ 8) : 0 ≤ fTop K c k ∧ fTop K c k ≤ k * 20 := zs_b h0 (fun j a q => by have := h.2.1 j a (by omega); rcases hc with rfl | rfl <;> omega)
theorem fLng_b {K : Int → Int} (h : zKV K) {k : Int} (hk : k ≤ 8) : 0 ≤ fLng K k ∧ fLng K k ≤ 40 := zmx_b (by omega) (fun j a q => by have := h.2.1 j a (by omega); omega)
theorem fAll_s {K : Int → Int} {k : Int} (h : 0 ≤ k) : fAll K k = fTop K 0 k + fTop K 1 k := by
  obtain ⟨n, rfl⟩ := Int.eq_ofNat_of_zero_le h
  clear h
  induction n with
  | zero => rfl
  | succ n ih =>
    unfold fAll fTop at ih ⊢
    rw [show ((n + 1 : Nat) : Int) = (n : Int) + 1 by omega, zs_s (by omega), zs_s (by omega), zs_s (by omega), ih]
    omega
theorem C_X1_bound {G : zG}  {S : zS} {m : zMm} {x : Int} {A : zMm} (hR : rel S m x A) {w : Int} (hw : zi w) : zC G mX1_bound 2 0 0 [zR x, zI w] S m (zDet (some (zI (if w = 0 then fLng (aK (A 0 1023) (A 2)) ((aK (A 0 1023) (A 2)) 5) else if w = 1 then (fAll (aK (A 0 1023) (A 2)) ((aK (A 0 1023) (A 2)) 5) + (aK (A 0 1023) (A 2)) 0 - 1) / (aK (A 0 1023) (A 2)) 0 else if w = 2 ∨ w = 3 then fTop (aK (A 0 1023) (A 2)) (w - 2) ((aK (A 0 1023) (A 2)) 5) else -1))) S m) zNX := by
  have hk := hR.vki.1
  have hKi := (hR.ki.2.1).ki hk
  have hKn := hKi.nu
  have hkr := hR.ki.2.1
  have hkf := hkr.2.1
  have hk0 := hk.1
  have hza : zall m (m x 7) (m (m x 7) 208) = fAll (aK (A 0 1023) (A 2)) (aK (A 0 1023) (A 2) 5) := by rw [zall_a hkr (by omega), hkf.2.2.2.2.2.1]
  have hzb := fAll_b hk (k := aK (A 0 1023) (A 2) 5) (by omega) (by omega)
  have hzs := fAll_s (K := aK (A 0 1023) (A 2)) (k := aK (A 0 1023) (A 2) 5) (by omega)
  refine zC.of [zR x, zI w, zU, zU, zU] (by decide) rfl (zEn1 (zcR _) (zEn1 (zcI _) (zEn0 (by simp)))) rfl ?_
  refine zT.iconst dX1_bound_0 ?_
  refine zT.istore_n 2 dX1_bound_1 rfl (by decide) (zpre1 rfl (zcI _)) ?_
  show zT G _ _ _ [zR x, zI w, zI 0, zU, zU] _ _ _ _ _ _ _
  refine zT.iconst dX1_bound_2 ?_
  refine zT.istore_n 3 dX1_bound_3 rfl (by decide) (zpre1 rfl (zcI _)) ?_
  show zT G _ _ _ [zR x, zI w, zI 0, zI 0, zU] _ _ _ _ _ _ _
  refine zT.iconst dX1_bound_4 ?_
  refine zT.istore 4 dX1_bound_5 (by decide) (zpre1 rfl (zcI _)) ?_
  show zT G _ _ _ [zR x, zI w, zI 0, zI 0, zI 0] _ _ _ _ _ _ _
  have L7 : ∀ (N : Nat) (s : Int) (u : Int) (v : Int), (0 ≤ s) → (s ≤ (aK (A 0 1023) (A 2)) 5) → (u = fLng (aK (A 0 1023) (A 2)) s) → (v = fTop (aK (A 0 1023) (A 2)) 0 s) → (((aK (A 0 1023) (A 2)) 5 - s).toNat) < N → zT G mX1_bound 2 7 [zR x, zI w, zI u, zI v, zI s] [] S m 0 0 (zDet (some (zI (if w = 0 then fLng (aK (A 0 1023) (A 2)) ((aK (A 0 1023) (A 2)) 5) else if w = 1 then (fAll (aK (A 0 1023) (A 2)) ((aK (A 0 1023) (A 2)) 5) + (aK (A 0 1023) (A 2)) 0 - 1) / (aK (A 0 1023) (A 2)) 0 else if w = 2 ∨ w = 3 then fTop (aK (A 0 1023) (A 2)) (w - 2) ((aK (A 0 1023) (A 2)) 5) else -1))) S m) zNX := by
    intro N
    induction N with
    | zero => intro s u v s0 s1 hu hv hN; exact absurd hN (Nat.not_lt_zero _)
    | succ N ih7 =>
      intro s u v s0 s1 hu hv hN
      have hub := fLng_b hk (k := s) (by omega)
      have hvb := fTop_b hk (Or.inl rfl) s0 (k := s) (by omega)
      rw [← hu] at hub
      rw [← hv] at hvb
      refine zT.iload 4 dX1_bound_7 rfl ?_
      refine zT.aload_n 0 dX1_bound_9 rfl rfl ?_
      refine zT.getR dX1_bound_10 fX1_66 rfl (zPan.k hR.sh) (j := 7) (by decide) rfl ?_
      refine zT.getI dX1_bound_13 fX1_228 rfl (zKit.k hR.ki.2.1.1) (j := 8) (by decide) rfl (fun z13 => ?_)
      refine zT.ic_ge (tgt := 54) dX1_bound_16 (by decide) (by first | assumption | exact zq_i _ | exact zand_i _ _ | exact zor_i _ _ | exact zxor_i _ _ | exact zN _ | omega) (by first | assumption | exact zq_i _ | exact zand_i _ _ | exact zor_i _ _ | exact zxor_i _ _ | exact zN _ | omega) (fun c16 => ?_) (fun c16 => ?_)
      · refine zT.iload_n 1 dX1_bound_54 rfl rfl ?_
        refine zT.tsw (td := 124) [84, 86, 112, 114] dX1_bound_55 (by first | assumption | exact zq_i _ | exact zand_i _ _ | exact zor_i _ _ | exact zxor_i _ _ | exact zN _ | omega) rfl (by decide) (fun c55 => ?_) ⟨by decide, fun c55 => ?_, by decide, fun c55 => ?_, by decide, fun c55 => ?_, by decide, fun c55 => ?_, trivial⟩
        · refine zT.iconst dX1_bound_124 ?_
          refine zT.iret dX1_bound_125 rfl ?_
          exact ⟨by rw [if_neg (by omega), if_neg (by omega), if_neg (by omega)], rfl, rfl⟩
        · refine zT.iload_n 2 dX1_bound_84 rfl rfl ?_
          refine zT.iret dX1_bound_85 rfl ?_
          exact ⟨by rw [if_pos (by omega), hu, show s = (aK (A 0 1023) (A 2)) 5 by omega], rfl, rfl⟩
        · refine zT.aload_n 0 dX1_bound_86 rfl rfl ?_
          refine zT.getR dX1_bound_87 fX1_66 rfl (zPan.k hR.sh) (j := 7) (by decide) rfl ?_
          refine zT.callV (M' := mX3_all) (b := (m x 7)) [] [] dX1_bound_90 kX1_361 rfl rfl (ci := 2) (r := (RX3, TX3, 16)) rfl (zKit.k hR.ki.2.1.1) (C_X3_all hR.ki.2.1.1 hKi) (by decide) (k' := 0) (n' := 0) (by omega) (by omega) (by decide) (zdk (v := some (zI (zall m (m x 7) (m (m x 7) 208)))) ?_) (fun _ _ _ _ h => h.elim)
          show zT G _ _ _ _ [zI (zall m (m x 7) (m (m x 7) 208))] _ _ _ _ _ _
          refine zT.aload_n 0 dX1_bound_93 rfl rfl ?_
          refine zT.getR dX1_bound_94 fX1_66 rfl (zPan.k hR.sh) (j := 7) (by decide) rfl ?_
          refine zT.getI dX1_bound_97 fX1_332 rfl (zKit.k hR.ki.2.1.1) (j := 11) (by decide) rfl (fun z97 => ?_)
          refine zT.iadd dX1_bound_100 ?_
          refine zT.iconst dX1_bound_101 ?_
          refine zT.isub dX1_bound_102 ?_
          refine zT.aload_n 0 dX1_bound_103 rfl rfl ?_
          refine zT.getR dX1_bound_104 fX1_66 rfl (zPan.k hR.sh) (j := 7) (by decide) rfl ?_
          refine zT.getI dX1_bound_107 fX1_332 rfl (zKit.k hR.ki.2.1.1) (j := 11) (by decide) rfl (fun z107 => ?_)
          refine zT.idiv dX1_bound_110 (by first | assumption | exact zq_i _ | exact zand_i _ _ | exact zor_i _ _ | exact zxor_i _ _ | exact zN _ | omega) (by first | assumption | exact zq_i _ | exact zand_i _ _ | exact zor_i _ _ | exact zxor_i _ _ | exact zN _ | omega) (by first | assumption | exact zq_i _ | exact zand_i _ _ | exact zor_i _ _ | exact zxor_i _ _ | exact zN _ | omega) (by first | assumption | exact zq_i _ | exact zand_i _ _ | exact zor_i _ _ | exact zxor_i _ _ | exact zN _ | omega) ?_
          refine zT.iret dX1_bound_111 rfl ?_
          exact ⟨by rw [if_neg (by omega), if_pos (by omega), hza, hkf.1], rfl, rfl⟩
        · refine zT.iload_n 3 dX1_bound_112 rfl rfl ?_
          refine zT.iret dX1_bound_113 rfl ?_
          exact ⟨by rw [if_neg (by omega), if_neg (by omega), if_pos (by omega), hv, show w - 2 = 0 by omega, show s = (aK (A 0 1023) (A 2)) 5 by omega], rfl, rfl⟩
        · refine zT.aload_n 0 dX1_bound_114 rfl rfl ?_
          refine zT.getR dX1_bound_115 fX1_66 rfl (zPan.k hR.sh) (j := 7) (by decide) rfl ?_
          refine zT.callV (M' := mX3_all) (b := (m x 7)) [] [] dX1_bound_118 kX1_361 rfl rfl (ci := 2) (r := (RX3, TX3, 16)) rfl (zKit.k hR.ki.2.1.1) (C_X3_all hR.ki.2.1.1 hKi) (by decide) (k' := 0) (n' := 0) (by omega) (by omega) (by decide) (zdk (v := some (zI (zall m (m x 7) (m (m x 7) 208)))) ?_) (fun _ _ _ _ h => h.elim)
          show zT G _ _ _ _ [zI (zall m (m x 7) (m (m x 7) 208))] _ _ _ _ _ _
          refine zT.iload_n 3 dX1_bound_121 rfl rfl ?_
          refine zT.isub dX1_bound_122 ?_
          refine zT.iret dX1_bound_123 rfl ?_
          exact ⟨by rw [if_neg (by omega), if_neg (by omega), if_pos (by omega), hza, hzs, hv, show w - 2 = 1 by omega, show s = (aK (A 0 1023) (A 2)) 5 by omega, Int.add_comm, Int.add_sub_cancel], rfl, rfl⟩
      · have hsl := hkr.2.2.1 s (by omega) (by omega)
        have hkv := hk.2.1 s (by omega) (by omega)
        refine zT.iload_n 2 dX1_bound_19 rfl rfl ?_
        refine zT.aload_n 0 dX1_bound_20 rfl rfl ?_
        refine zT.getR dX1_bound_21 fX1_66 rfl (zPan.k hR.sh) (j := 7) (by decide) rfl ?_
        refine zT.iload 4 dX1_bound_24 rfl ?_
        refine zT.callV (M' := mX3_whole) (b := (m x 7)) [zI s] [zI u] dX1_bound_26 kX1_352 rfl rfl (ci := 2) (r := (RX3, TX3, 16)) rfl (zKit.k hR.ki.2.1.1) (C_X3_whole hR.ki.2.1.1 (by first | assumption | exact zq_i _ | exact zand_i _ _ | exact zor_i _ _ | exact zxor_i _ _ | exact zN _ | omega)) (by decide) (k' := 0) (n' := 0) (by omega) (by omega) (by simp only [List.map, zcI, zcJ, zcR, List.sum_cons, List.sum_nil]; decide) (zdk (v := some (zI (m ((m x 7) + 3) (2 * s) + m ((m x 7) + 3) (2 * s + 1)))) ?_) (fun _ _ _ _ h => h.elim)
        show zT G _ _ _ _ [zI (m ((m x 7) + 3) (2 * s) + m ((m x 7) + 3) (2 * s + 1)), zI u] _ _ _ _ _ _
        refine zT.mmax dX1_bound_29 q1010 (by first | assumption | exact zq_i _ | exact zand_i _ _ | exact zor_i _ _ | exact zxor_i _ _ | exact zN _ | omega) (by first | assumption | exact zq_i _ | exact zand_i _ _ | exact zor_i _ _ | exact zxor_i _ _ | exact zN _ | omega) (by decide) (by decide) ?_
        refine zT.istore_n 2 dX1_bound_32 rfl (by decide) (zpre1 rfl (zcI _)) ?_
        show zT G _ _ _ [zR x, zI w, zI (max u (m ((m x 7) + 3) (2 * s) + m ((m x 7) + 3) (2 * s + 1))), zI v, zI s] _ _ _ _ _ _ _
        refine zT.iload_n 3 dX1_bound_33 rfl rfl ?_
        refine zT.aload_n 0 dX1_bound_34 rfl rfl ?_
        refine zT.getR dX1_bound_35 fX1_66 rfl (zPan.k hR.sh) (j := 7) (by decide) rfl ?_
        refine zT.getF dX1_bound_38 fX1_243 rfl (zKit.k hR.ki.2.1.1) (j := 2) (by decide) rfl (zKit.f202 hR.ki.2.1.1) ?_
        refine zT.iconst dX1_bound_41 ?_
        refine zT.iload 4 dX1_bound_42 rfl ?_
        refine zT.imul dX1_bound_44 ?_
        refine zT.iald dX1_bound_45 (zKit.a202 hR.ki.2.1.1) (by first | assumption | exact zq_i _ | exact zand_i _ _ | exact zor_i _ _ | exact zxor_i _ _ | exact zN _ | omega) (by rw [(zKit.n202 hR.ki.2.1.1)]; first | assumption | exact zq_i _ | exact zand_i _ _ | exact zor_i _ _ | exact zxor_i _ _ | exact zN _ | omega) (fun z45 => ?_)
        refine zT.iadd dX1_bound_46 ?_
        refine zT.istore_n 3 dX1_bound_47 rfl (by decide) (zpre1 rfl (zcI _)) ?_
        show zT G _ _ _ [zR x, zI w, zI (max u (m ((m x 7) + 3) (2 * s) + m ((m x 7) + 3) (2 * s + 1))), zI (v + (m ((m x 7) + 3) (2 * s))), zI s] _ _ _ _ _ _ _
        refine zT.iinc 4 dX1_bound_48 rfl (by decide) (zpre1 rfl (zcI _)) ?_
        show zT G _ _ _ [zR x, zI w, zI (max u (m ((m x 7) + 3) (2 * s) + m ((m x 7) + 3) (2 * s + 1))), zI (v + (m ((m x 7) + 3) (2 * s))), zI (s + 1)] _ _ _ _ _ _ _
        refine zT.goto (tgt := 7) dX1_bound_51 (by decide) ?_
        exact ih7 _ _ _ (by first | assumption | exact zq_i _ | exact zand_i _ _ | exact zor_i _ _ | exact zxor_i _ _ | exact zN _ | omega) (by first | assumption | exact zq_i _ | exact zand_i _ _ | exact zor_i _ _ | exact zxor_i _ _ | exact zN _ | omega) (by unfold fLng at *; rw [zmx_s s0, ← hu, hsl.1, hsl.2.1]) (by unfold fTop at *; rw [zs_s s0, ← hv, hsl.1]) (by omega)
  exact L7 _ _ _ _ (by first | assumption | exact zq_i _ | exact zand_i _ _ | exact zor_i _ _ | exact zxor_i _ _ | exact zN _ | omega) (by first | assumption | exact zq_i _ | exact zand_i _ _ | exact zor_i _ _ | exact zxor_i _ _ | exact zN _ | omega) (by rfl) (by rfl) (Nat.lt_succ_self _)

theorem aWhy_b {K : Int → Int} {g : zGo} {k t : Int} : 0 ≤ aWhy K g k t ∧ aWhy K g k t ≤ 5 := by
  unfold aWhy zite
  repeat' split
  all_goals omega
noncomputable def fJw (K : Int → Int) (n : Int) (g : zGo) : Int := if fJud K n g = -1 then 0 else aWhy K g (fJud K n g) (g (fJud K n g) 2)
theorem C_X1_judge {G : zG}  {S : zS} {m : zMm} {x : Int} {A : zMm} (hR : rel S m x A)  : zC G mX1_judge 4 0 0 [zR x] S m (zPo S m x (some (zI (fJud (aK (A 0 1023) (A 2)) (A 2 58) (aGo (A 2) 58)))) (zup A 0 1026 (fJw (aK (A 0 1023) (A 2)) (A 2 58) (aGo (A 2) 58)))) zNX := by
  have hk := hR.vki.1
  have hKi := (hR.ki.2.1).ki hk
  have hKn := hKi.nu
  have hkr := hR.ki.2.1
  have hkf := hkr.2.1
  have hk0 := hk.1
  have hpl := hR.pl
  have hpv := hR.vpl
  have hPl := hpl.pl hpv
  have hPl0 := hPl.1
  have hPl1 := hPl.2.1
  have hgn := hpl.2.1
  refine zC.of [zR x, zU] (by decide) rfl (zEn1 (zcR _) (zEn0 (by simp))) rfl ?_
  obtain ⟨Q9, eQ9⟩ : ∃ z : zQt, z = (zPo S m x (some (zI (fJud (aK (A 0 1023) (A 2)) (A 2 58) (aGo (A 2) 58)))) (zup A 0 1026 (fJw (aK (A 0 1023) (A 2)) (A 2 58) (aGo (A 2) 58)))) := ⟨_, rfl⟩
  rw [← eQ9]
  refine zT.aload_n 0 dX1_judge_0 rfl rfl ?_
  refine zT.iconst dX1_judge_1 ?_
  refine zT.putI dX1_judge_2 fX1_96 zs_13 rfl (zPan.k hR.sh) (j := 13) (by decide) rfl (by first | assumption | exact zq_i _ | exact zand_i _ _ | exact zor_i _ _ | exact zxor_i _ _ | exact zN _ | omega) ?_
  obtain ⟨m1, em1⟩ : ∃ z, z = zup m x 13 0 := ⟨_, rfl⟩
  rw [← em1]
  refine zT.iconst dX1_judge_5 ?_
  refine zT.istore_n 1 dX1_judge_6 rfl (by decide) (zpre1 rfl (zcR _)) ?_
  show zT G _ _ _ [zR x, zI 0] _ _ _ _ _ _ _
  have L7 : ∀ (N : Nat) (k : Int), (0 ≤ k) → (k ≤ (A 2 58)) → (∀ j, 0 ≤ j → j < k → ¬ (0 < aWhy (aK (A 0 1023) (A 2)) (aGo (A 2) 58) j ((aGo (A 2) 58) j 2))) → (((A 2 58) - k).toNat) < N → zT G mX1_judge 4 7 [zR x, zI k] [] S (zup m x 13 0) 0 0 Q9 zNX := by
    intro N
    induction N with
    | zero => intro k k0 k1 hv hN; exact absurd hN (Nat.not_lt_zero _)
    | succ N ih7 =>
      intro k k0 k1 hv hN
      obtain ⟨m2, em2⟩ : ∃ z, z = zup m x 13 0 := ⟨_, rfl⟩
      rw [← em2]
      refine zT.iload_n 1 dX1_judge_7 rfl rfl ?_
      refine zT.aload_n 0 dX1_judge_8 rfl rfl ?_
      refine zT.getF dX1_judge_9 fX1_73 rfl (zPan.k hR.sh) (j := 8) (by decide) rfl (zPan.f8 hR.sh) ?_
      refine zT.getI dX1_judge_12 fX1_213 rfl (zPlan.k (zPan.o8 hR.sh)) (j := 5) (by decide) rfl (fun z12 => ?_)
      have r12 : m2 (x + 14) 305 = m (x + 14) 305 := by rw [em2, zup_ne (by omega)]
      rw [r12] at z12 ⊢
      refine zT.ic_ge (tgt := 49) dX1_judge_15 (by decide) (by first | assumption | exact zq_i _ | exact zand_i _ _ | exact zor_i _ _ | exact zxor_i _ _ | exact zN _ | omega) (by first | assumption | exact zq_i _ | exact zand_i _ _ | exact zor_i _ _ | exact zxor_i _ _ | exact zN _ | omega) (fun c15 => ?_) (fun c15 => ?_)
      · refine zT.iconst dX1_judge_49 ?_
        refine zT.iret dX1_judge_50 rfl ?_
        rw [eQ9]
        have hj : fJud (aK (A 0 1023) (A 2)) (A 2 58) (aGo (A 2) 58) = -1 := by
          unfold fJud
          exact zfi_f (fun j a b => hv j a (by omega))
        have hw9 : fJw (aK (A 0 1023) (A 2)) (A 2 58) (aGo (A 2) 58) = 0 := by
          unfold fJw
          rw [hj, if_pos rfl]
        refine ⟨by rw [hj], zGr.rf, ?_, ?_⟩
        · rw [hw9, em2]
          exact hR.upWy
        · rw [em2]
          exact zOut.rf.up (by omega)
      · have hg1 : zPR S m2 (x + 14) (A 2 58) (aGo (A 2) 58) := by rw [em2]; exact hpl.fr zGr.rf (fun a h1 h2 j => zup_ne (by omega))
        have hx1 : zKR S m2 (m x 7) (aK (A 0 1023) (A 2)) := by rw [em2]; exact hkr.fr zGr.rf (fun a h1 h2 j => zup_ne (by have := hR.ki.1; omega))
        have hwb := aWhy_b (K := aK (A 0 1023) (A 2)) (g := aGo (A 2) 58) (k := k) (t := aGo (A 2) 58 k 2)
        refine zT.aload_n 0 dX1_judge_18 rfl rfl ?_
        refine zT.aload_n 0 dX1_judge_19 rfl rfl ?_
        refine zT.getF dX1_judge_20 fX1_73 rfl (zPan.k hR.sh) (j := 8) (by decide) rfl (zPan.f8 hR.sh) ?_
        refine zT.aload_n 0 dX1_judge_23 rfl rfl ?_
        refine zT.getR dX1_judge_24 fX1_66 rfl (zPan.k hR.sh) (j := 7) (by decide) rfl ?_
        have r24 : m2 x 7 = m x 7 := by rw [em2, zup_ne (by omega)]
        rw [r24]
        refine zT.iload_n 1 dX1_judge_27 rfl rfl ?_
        refine zT.callV (M' := mX4_why) (b := (x + 14)) [zR (m x 7), zI k] [zR x] dX1_judge_28 kX1_276 rfl rfl (ci := 3) (r := (RX4, TX4, 6)) rfl (zPlan.k (zPan.o8 hR.sh)) (C_X4_why (n := A 2 58) (g := aGo (A 2) 58) (K := aK (A 0 1023) (A 2)) hg1 (show zGV (A 2 58) (aGo (A 2) 58) from hpv) hx1 hk (show 0 ≤ k by omega) (show k < A 2 58 by omega)) (by decide) (k' := 0) (n' := 0) (by omega) (by omega) (by simp only [List.map, zcI, zcJ, zcR, List.sum_cons, List.sum_nil]; decide) (zdk (v := some (zI (aWhy (aK (A 0 1023) (A 2)) (aGo (A 2) 58) k ((aGo (A 2) 58) k 2)))) ?_) (fun _ _ _ _ h => h.elim)
        show zT G _ _ _ _ [zI (aWhy (aK (A 0 1023) (A 2)) (aGo (A 2) 58) k ((aGo (A 2) 58) k 2)), zR x] _ _ _ _ _ _
        refine zT.putI dX1_judge_31 fX1_96 zs_13 rfl (zPan.k hR.sh) (j := 13) (by decide) rfl (by first | assumption | exact zq_i _ | exact zand_i _ _ | exact zor_i _ _ | exact zxor_i _ _ | exact zN _ | omega) ?_
        obtain ⟨m3, em3⟩ : ∃ z, z = zup m2 x 13 (aWhy (aK (A 0 1023) (A 2)) (aGo (A 2) 58) k ((aGo (A 2) 58) k 2)) := ⟨_, rfl⟩
        rw [← em3]
        refine zT.aload_n 0 dX1_judge_34 rfl rfl ?_
        refine zT.getI dX1_judge_35 fX1_96 rfl (zPan.k hR.sh) (j := 13) (by decide) rfl (fun z35 => ?_)
        have r35 : m3 x 13 = aWhy (aK (A 0 1023) (A 2)) (aGo (A 2) 58) k ((aGo (A 2) 58) k 2) := by rw [em3, zup_at]
        rw [r35] at z35 ⊢
        refine zT.if_le (tgt := 43) dX1_judge_38 (by decide) (by first | assumption | exact zq_i _ | exact zand_i _ _ | exact zor_i _ _ | exact zxor_i _ _ | exact zN _ | omega) (fun c38 => ?_) (fun c38 => ?_)
        · refine zT.iinc 1 dX1_judge_43 rfl (by decide) (zpre1 rfl (zcR _)) ?_
          show zT G _ _ _ [zR x, zI (k + 1)] _ _ _ _ _ _ _
          refine zT.goto (tgt := 7) dX1_judge_46 (by decide) ?_
          have eb7 : m3 = zup m x 13 0 := by
            rw [em3, em2, zup_zup, show aWhy (aK (A 0 1023) (A 2)) (aGo (A 2) 58) k (aGo (A 2) 58 k 2) = 0 by omega]
          refine zT.meq eb7 ?_
          exact ih7 _ (by first | assumption | exact zq_i _ | exact zand_i _ _ | exact zor_i _ _ | exact zxor_i _ _ | exact zN _ | omega) (by first | assumption | exact zq_i _ | exact zand_i _ _ | exact zor_i _ _ | exact zxor_i _ _ | exact zN _ | omega) (by exact zal_s hv (by omega)) (by omega)
        · refine zT.iload_n 1 dX1_judge_41 rfl rfl ?_
          refine zT.iret dX1_judge_42 rfl ?_
          rw [eQ9]
          have hj : fJud (aK (A 0 1023) (A 2)) (A 2 58) (aGo (A 2) 58) = k := by
            unfold fJud
            exact zfi_t hv (by omega) (by omega) (by omega)
          have hw9 : fJw (aK (A 0 1023) (A 2)) (A 2 58) (aGo (A 2) 58) = aWhy (aK (A 0 1023) (A 2)) (aGo (A 2) 58) k (aGo (A 2) 58 k 2) := by
            unfold fJw
            rw [hj, if_neg (by omega)]
          refine ⟨by rw [hj], zGr.rf, ?_, ?_⟩
          · rw [hw9, em3, em2, zup_zup]
            exact hR.upWy
          · rw [em3, em2]
            exact (zOut.rf.up (by omega)).up (by omega)
  have eb7 : m1 = zup m x 13 0 := by
    rw [em1]
  refine zT.meq eb7 ?_
  exact L7 _ _ (by first | assumption | exact zq_i _ | exact zand_i _ _ | exact zor_i _ _ | exact zxor_i _ _ | exact zN _ | omega) (by first | assumption | exact zq_i _ | exact zand_i _ _ | exact zor_i _ _ | exact zxor_i _ _ | exact zN _ | omega) (by exact zal_0) (Nat.lt_succ_self _)

theorem C_X1_four {G : zG}  {S : zS} {m : zMm} {x : Int} {A : zMm} (hR : rel S m x A) {w : Int} (hw : zi w) (h0 : A 0 1002 + 4 ≤ 640) : zC G mX1_four 0 0 0 [zR x, zI w] S m (zPo S m x none (uCome A w)) zNX := by
  have t1 := hR.tp.1
  have t2 := hR.vtp.1
  refine zC.of [zR x, zI w, zU] (by decide) rfl (zEn1 (zcR _) (zEn1 (zcI _) (zEn0 (by simp)))) rfl ?_
  refine zT.bipush dX1_four_0 ?_
  refine zT.istore_n 2 dX1_four_2 rfl (by decide) (zpre1 rfl (zcI _)) ?_
  show zT G _ _ _ [zR x, zI w, zI 24] _ _ _ _ _ _ _
  refine zT.iload_n 2 dX1_four_3 rfl rfl ?_
  refine zT.if_lt (tgt := 36) dX1_four_4 (by decide) (by first | assumption | exact zq_i _ | exact zand_i _ _ | exact zor_i _ _ | exact zxor_i _ _ | exact zN _ | omega) (fun c4 => absurd c4 (by decide)) (fun c4 => ?_)
  refine zT.aload_n 0 dX1_four_7 rfl rfl ?_
  refine zT.getF dX1_four_8 fX1_9 rfl (zPan.k hR.sh) (j := 0) (by decide) rfl (zPan.f0 hR.sh) ?_
  refine zT.aload_n 0 dX1_four_11 rfl rfl ?_
  refine zT.getI dX1_four_12 fX1_191 rfl (zPan.k hR.sh) (j := 1) (by decide) rfl (fun z12 => ?_)
  refine zT.iload_n 1 dX1_four_15 rfl rfl ?_
  refine zT.iload_n 2 dX1_four_16 rfl rfl ?_
  refine zT.ishr dX1_four_17 (by first | assumption | exact zq_i _ | exact zand_i _ _ | exact zor_i _ _ | exact zxor_i _ _ | exact zN _ | omega) (by first | assumption | exact zq_i _ | exact zand_i _ _ | exact zor_i _ _ | exact zxor_i _ _ | exact zN _ | omega) (by first | assumption | exact zq_i _ | exact zand_i _ _ | exact zor_i _ _ | exact zxor_i _ _ | exact zN _ | omega) ?_
  refine zT.i2b dX1_four_18 ?_
  refine zT.bast dX1_four_19 (zPan.a0 hR.sh) (by first | assumption | exact zq_i _ | exact zand_i _ _ | exact zor_i _ _ | exact zxor_i _ _ | exact zN _ | omega) (by rw [(zPan.n0 hR.sh)]; first | assumption | exact zq_i _ | exact zand_i _ _ | exact zor_i _ _ | exact zxor_i _ _ | exact zN _ | omega) ?_
  obtain ⟨m1, em1⟩ : ∃ z, z = zup m (x + 1) (m x 1) (((w / 2 ^ (24 : Int).toNat).bmod 256).bmod 256) := ⟨_, rfl⟩
  rw [← em1]
  refine zT.aload_n 0 dX1_four_20 rfl rfl ?_
  refine zT.dup dX1_four_21 (zcR _) ?_
  refine zT.getI dX1_four_22 fX1_191 rfl (zPan.k hR.sh) (j := 1) (by decide) rfl (fun z22 => ?_)
  have r22 : m1 x 1 = m x 1 := by rw [em1, zup_ne (by omega)]
  rw [r22] at z22 ⊢
  refine zT.iconst dX1_four_25 ?_
  refine zT.iadd dX1_four_26 ?_
  refine zT.putI dX1_four_27 fX1_191 zs_1 rfl (zPan.k hR.sh) (j := 1) (by decide) rfl (by first | assumption | exact zq_i _ | exact zand_i _ _ | exact zor_i _ _ | exact zxor_i _ _ | exact zN _ | omega) ?_
  obtain ⟨m2, em2⟩ : ∃ z, z = zup m1 x 1 ((m x 1) + 1) := ⟨_, rfl⟩
  rw [← em2]
  refine zT.iinc 2 dX1_four_30 rfl (by decide) (zpre1 rfl (zcI _)) ?_
  show zT G _ _ _ [zR x, zI w, zI 16] _ _ _ _ _ _ _
  refine zT.goto (tgt := 3) dX1_four_33 (by decide) ?_
  refine zT.iload_n 2 dX1_four_3 rfl rfl ?_
  refine zT.if_lt (tgt := 36) dX1_four_4 (by decide) (by first | assumption | exact zq_i _ | exact zand_i _ _ | exact zor_i _ _ | exact zxor_i _ _ | exact zN _ | omega) (fun c4 => absurd c4 (by decide)) (fun c4 => ?_)
  refine zT.aload_n 0 dX1_four_7 rfl rfl ?_
  refine zT.getF dX1_four_8 fX1_9 rfl (zPan.k hR.sh) (j := 0) (by decide) rfl (zPan.f0 hR.sh) ?_
  refine zT.aload_n 0 dX1_four_11 rfl rfl ?_
  refine zT.getI dX1_four_12 fX1_191 rfl (zPan.k hR.sh) (j := 1) (by decide) rfl (fun z12 => ?_)
  have r12 : m2 x 1 = (m x 1) + 1 := by rw [em2, zup_at]
  rw [r12] at z12 ⊢
  refine zT.iload_n 1 dX1_four_15 rfl rfl ?_
  refine zT.iload_n 2 dX1_four_16 rfl rfl ?_
  refine zT.ishr dX1_four_17 (by first | assumption | exact zq_i _ | exact zand_i _ _ | exact zor_i _ _ | exact zxor_i _ _ | exact zN _ | omega) (by first | assumption | exact zq_i _ | exact zand_i _ _ | exact zor_i _ _ | exact zxor_i _ _ | exact zN _ | omega) (by first | assumption | exact zq_i _ | exact zand_i _ _ | exact zor_i _ _ | exact zxor_i _ _ | exact zN _ | omega) ?_
  refine zT.i2b dX1_four_18 ?_
  refine zT.bast dX1_four_19 (zPan.a0 hR.sh) (by first | assumption | exact zq_i _ | exact zand_i _ _ | exact zor_i _ _ | exact zxor_i _ _ | exact zN _ | omega) (by rw [(zPan.n0 hR.sh)]; first | assumption | exact zq_i _ | exact zand_i _ _ | exact zor_i _ _ | exact zxor_i _ _ | exact zN _ | omega) ?_
  obtain ⟨m3, em3⟩ : ∃ z, z = zup m2 (x + 1) ((m x 1) + 1) (((w / 2 ^ (16 : Int).toNat).bmod 256).bmod 256) := ⟨_, rfl⟩
  rw [← em3]
  refine zT.aload_n 0 dX1_four_20 rfl rfl ?_
  refine zT.dup dX1_four_21 (zcR _) ?_
  refine zT.getI dX1_four_22 fX1_191 rfl (zPan.k hR.sh) (j := 1) (by decide) rfl (fun z22 => ?_)
  have r22 : m3 x 1 = (m x 1) + 1 := by rw [em3, zup_ne (by omega), em2, zup_at]
  rw [r22] at z22 ⊢
  refine zT.iconst dX1_four_25 ?_
  refine zT.iadd dX1_four_26 ?_
  refine zT.putI dX1_four_27 fX1_191 zs_1 rfl (zPan.k hR.sh) (j := 1) (by decide) rfl (by first | assumption | exact zq_i _ | exact zand_i _ _ | exact zor_i _ _ | exact zxor_i _ _ | exact zN _ | omega) ?_
  obtain ⟨m4, em4⟩ : ∃ z, z = zup m3 x 1 (((m x 1) + 1) + 1) := ⟨_, rfl⟩
  rw [← em4]
  refine zT.iinc 2 dX1_four_30 rfl (by decide) (zpre1 rfl (zcI _)) ?_
  show zT G _ _ _ [zR x, zI w, zI 8] _ _ _ _ _ _ _
  refine zT.goto (tgt := 3) dX1_four_33 (by decide) ?_
  refine zT.iload_n 2 dX1_four_3 rfl rfl ?_
  refine zT.if_lt (tgt := 36) dX1_four_4 (by decide) (by first | assumption | exact zq_i _ | exact zand_i _ _ | exact zor_i _ _ | exact zxor_i _ _ | exact zN _ | omega) (fun c4 => absurd c4 (by decide)) (fun c4 => ?_)
  refine zT.aload_n 0 dX1_four_7 rfl rfl ?_
  refine zT.getF dX1_four_8 fX1_9 rfl (zPan.k hR.sh) (j := 0) (by decide) rfl (zPan.f0 hR.sh) ?_
  refine zT.aload_n 0 dX1_four_11 rfl rfl ?_
  refine zT.getI dX1_four_12 fX1_191 rfl (zPan.k hR.sh) (j := 1) (by decide) rfl (fun z12 => ?_)
  have r12 : m4 x 1 = ((m x 1) + 1) + 1 := by rw [em4, zup_at]
  rw [r12] at z12 ⊢
  refine zT.iload_n 1 dX1_four_15 rfl rfl ?_
  refine zT.iload_n 2 dX1_four_16 rfl rfl ?_
  refine zT.ishr dX1_four_17 (by first | assumption | exact zq_i _ | exact zand_i _ _ | exact zor_i _ _ | exact zxor_i _ _ | exact zN _ | omega) (by first | assumption | exact zq_i _ | exact zand_i _ _ | exact zor_i _ _ | exact zxor_i _ _ | exact zN _ | omega) (by first | assumption | exact zq_i _ | exact zand_i _ _ | exact zor_i _ _ | exact zxor_i _ _ | exact zN _ | omega) ?_
  refine zT.i2b dX1_four_18 ?_
  refine zT.bast dX1_four_19 (zPan.a0 hR.sh) (by first | assumption | exact zq_i _ | exact zand_i _ _ | exact zor_i _ _ | exact zxor_i _ _ | exact zN _ | omega) (by rw [(zPan.n0 hR.sh)]; first | assumption | exact zq_i _ | exact zand_i _ _ | exact zor_i _ _ | exact zxor_i _ _ | exact zN _ | omega) ?_
  obtain ⟨m5, em5⟩ : ∃ z, z = zup m4 (x + 1) (((m x 1) + 1) + 1) (((w / 2 ^ (8 : Int).toNat).bmod 256).bmod 256) := ⟨_, rfl⟩
  rw [← em5]
  refine zT.aload_n 0 dX1_four_20 rfl rfl ?_
  refine zT.dup dX1_four_21 (zcR _) ?_
  refine zT.getI dX1_four_22 fX1_191 rfl (zPan.k hR.sh) (j := 1) (by decide) rfl (fun z22 => ?_)
  have r22 : m5 x 1 = ((m x 1) + 1) + 1 := by rw [em5, zup_ne (by omega), em4, zup_at]
  rw [r22] at z22 ⊢
  refine zT.iconst dX1_four_25 ?_
  refine zT.iadd dX1_four_26 ?_
  refine zT.putI dX1_four_27 fX1_191 zs_1 rfl (zPan.k hR.sh) (j := 1) (by decide) rfl (by first | assumption | exact zq_i _ | exact zand_i _ _ | exact zor_i _ _ | exact zxor_i _ _ | exact zN _ | omega) ?_
  obtain ⟨m6, em6⟩ : ∃ z, z = zup m5 x 1 ((((m x 1) + 1) + 1) + 1) := ⟨_, rfl⟩
  rw [← em6]
  refine zT.iinc 2 dX1_four_30 rfl (by decide) (zpre1 rfl (zcI _)) ?_
  show zT G _ _ _ [zR x, zI w, zI 0] _ _ _ _ _ _ _
  refine zT.goto (tgt := 3) dX1_four_33 (by decide) ?_
  refine zT.iload_n 2 dX1_four_3 rfl rfl ?_
  refine zT.if_lt (tgt := 36) dX1_four_4 (by decide) (by first | assumption | exact zq_i _ | exact zand_i _ _ | exact zor_i _ _ | exact zxor_i _ _ | exact zN _ | omega) (fun c4 => absurd c4 (by decide)) (fun c4 => ?_)
  refine zT.aload_n 0 dX1_four_7 rfl rfl ?_
  refine zT.getF dX1_four_8 fX1_9 rfl (zPan.k hR.sh) (j := 0) (by decide) rfl (zPan.f0 hR.sh) ?_
  refine zT.aload_n 0 dX1_four_11 rfl rfl ?_
  refine zT.getI dX1_four_12 fX1_191 rfl (zPan.k hR.sh) (j := 1) (by decide) rfl (fun z12 => ?_)
  have r12 : m6 x 1 = (((m x 1) + 1) + 1) + 1 := by rw [em6, zup_at]
  rw [r12] at z12 ⊢
  refine zT.iload_n 1 dX1_four_15 rfl rfl ?_
  refine zT.iload_n 2 dX1_four_16 rfl rfl ?_
  refine zT.ishr dX1_four_17 (by first | assumption | exact zq_i _ | exact zand_i _ _ | exact zor_i _ _ | exact zxor_i _ _ | exact zN _ | omega) (by first | assumption | exact zq_i _ | exact zand_i _ _ | exact zor_i _ _ | exact zxor_i _ _ | exact zN _ | omega) (by first | assumption | exact zq_i _ | exact zand_i _ _ | exact zor_i _ _ | exact zxor_i _ _ | exact zN _ | omega) ?_
  refine zT.i2b dX1_four_18 ?_
  refine zT.bast dX1_four_19 (zPan.a0 hR.sh) (by first | assumption | exact zq_i _ | exact zand_i _ _ | exact zor_i _ _ | exact zxor_i _ _ | exact zN _ | omega) (by rw [(zPan.n0 hR.sh)]; first | assumption | exact zq_i _ | exact zand_i _ _ | exact zor_i _ _ | exact zxor_i _ _ | exact zN _ | omega) ?_
  obtain ⟨m7, em7⟩ : ∃ z, z = zup m6 (x + 1) ((((m x 1) + 1) + 1) + 1) (((w / 2 ^ (0 : Int).toNat).bmod 256).bmod 256) := ⟨_, rfl⟩
  rw [← em7]
  refine zT.aload_n 0 dX1_four_20 rfl rfl ?_
  refine zT.dup dX1_four_21 (zcR _) ?_
  refine zT.getI dX1_four_22 fX1_191 rfl (zPan.k hR.sh) (j := 1) (by decide) rfl (fun z22 => ?_)
  have r22 : m7 x 1 = (((m x 1) + 1) + 1) + 1 := by rw [em7, zup_ne (by omega), em6, zup_at]
  rw [r22] at z22 ⊢
  refine zT.iconst dX1_four_25 ?_
  refine zT.iadd dX1_four_26 ?_
  refine zT.putI dX1_four_27 fX1_191 zs_1 rfl (zPan.k hR.sh) (j := 1) (by decide) rfl (by first | assumption | exact zq_i _ | exact zand_i _ _ | exact zor_i _ _ | exact zxor_i _ _ | exact zN _ | omega) ?_
  obtain ⟨m8, em8⟩ : ∃ z, z = zup m7 x 1 (((((m x 1) + 1) + 1) + 1) + 1) := ⟨_, rfl⟩
  rw [← em8]
  refine zT.iinc 2 dX1_four_30 rfl (by decide) (zpre1 rfl (zcI _)) ?_
  show zT G _ _ _ [zR x, zI w, zI (-8)] _ _ _ _ _ _ _
  refine zT.goto (tgt := 3) dX1_four_33 (by decide) ?_
  refine zT.iload_n 2 dX1_four_3 rfl rfl ?_
  refine zT.if_lt (tgt := 36) dX1_four_4 (by decide) (by first | assumption | exact zq_i _ | exact zand_i _ _ | exact zor_i _ _ | exact zxor_i _ _ | exact zN _ | omega) (fun c4 => ?_) (fun c4 => absurd c4 (by decide))
  refine zT.vret dX1_four_36 rfl ?_
  have b1 : ∀ z : Int, (z % 256).bmod 256 = z.bmod 256 := fun z => Int.emod_bmod z 256
  have r1 := hR.put (u := w / 16777216 % 256) (v := (w / 16777216).bmod 256) (by omega) (by omega) (b1 _).symm
  have r2 := r1.put (u := w / 65536 % 256) (v := (w / 65536).bmod 256) (by rw [uPut_n]; omega) (by omega) (b1 _).symm
  have r3 := r2.put (u := w / 256 % 256) (v := (w / 256).bmod 256) (by rw [uPut_n, uPut_n]; omega) (by omega) (b1 _).symm
  have r4 := r3.put (u := w % 256) (v := w.bmod 256) (by rw [uPut_n, uPut_n, uPut_n]; omega) (by omega) (b1 _).symm
  have p24 : (2 : Int) ^ Int.toNat 24 = 16777216 := rfl
  have p16 : (2 : Int) ^ Int.toNat 16 = 65536 := rfl
  have p8 : (2 : Int) ^ Int.toNat 8 = 256 := rfl
  have p0 : (2 : Int) ^ Int.toNat 0 = 1 := rfl
  have e : m8 = cPut (cPut (cPut (cPut m x ((w / 16777216).bmod 256)) x ((w / 65536).bmod 256)) x ((w / 256).bmod 256)) x (w.bmod 256) := by
    unfold cPut
    simp only [zup_at, em8, em7, em6, em5, em4, em3, em2, em1, Int.bmod_bmod, p24, p16, p8, p0, Int.ediv_one]
  rw [e]
  refine ⟨rfl, zGr.rf, r4, ?_⟩
  unfold cPut
  exact (((((((zOut.rf.up (by omega)).up (by omega)).up (by omega)).up (by omega)).up (by omega)).up (by omega)).up (by omega)).up (by omega)

noncomputable def uFeed (A : zMm) (a b c d e : Int) : zMm := uCome (uCome (uCome (uCome (uCome A a) b) c) d) e
theorem uFeed_n {A : zMm} {a b c d e : Int} : uFeed A a b c d e 0 1002 = A 0 1002 + 20 := by
  unfold uFeed
  simp only [uCome_n]
  omega
theorem C_X1_feed {G : zG}  {S : zS} {m : zMm} {x : Int} {A : zMm} (hR : rel S m x A) {a b c e g : Int} (ha : zi a) (hb : zi b) (hc : zi c) (he : zi e) (hg : zi g) : zC G mX1_feed 1 0 0 [zR x, zI a, zI b, zI c, zI e, zI g] S m (zPo S m x (some (zI (if A 0 1002 + 20 > 640 then -1 else A 0 1002 + 20))) (if A 0 1002 + 20 > 640 then A else uFeed A a b c e g)) zNX := by
  have t1 := hR.tp.1
  have t2 := hR.vtp.1
  refine zC.of [zR x, zI a, zI b, zI c, zI e, zI g] (by decide) rfl (zEn1 (zcR _) (zEn1 (zcI _) (zEn1 (zcI _) (zEn1 (zcI _) (zEn1 (zcI _) (zEn1 (zcI _) (zEn0 (by simp)))))))) rfl ?_
  refine zT.aload_n 0 dX1_feed_0 rfl rfl ?_
  refine zT.getI dX1_feed_1 fX1_191 rfl (zPan.k hR.sh) (j := 1) (by decide) rfl (fun z1 => ?_)
  refine zT.bipush dX1_feed_4 ?_
  refine zT.iadd dX1_feed_6 ?_
  refine zT.sipush dX1_feed_7 ?_
  refine zT.ic_le (tgt := 15) dX1_feed_10 (by decide) (by first | assumption | exact zq_i _ | exact zand_i _ _ | exact zor_i _ _ | exact zxor_i _ _ | exact zN _ | omega) (by first | assumption | exact zq_i _ | exact zand_i _ _ | exact zor_i _ _ | exact zxor_i _ _ | exact zN _ | omega) (fun c10 => ?_) (fun c10 => ?_)
  · refine zT.aload_n 0 dX1_feed_15 rfl rfl ?_
    refine zT.iload_n 1 dX1_feed_16 rfl rfl ?_
    refine zT.callV (M' := mX1_four) (b := x) [zI a] [] dX1_feed_17 kX1_194 rfl rfl (ci := 0) (r := (RX1, TX1, 42)) rfl (zPan.k hR.sh) (C_X1_four hR (show zi a by assumption) (by first | (simp only [uCome_n]; omega) | omega)) (by decide) (k' := 0) (n' := 0) (by omega) (by omega) (by decide) (fun v17 S17_ m17_ h17 => ?_) (fun _ _ _ _ h => h.elim)
    obtain ⟨rfl, g17, hR17, o17⟩ := h17
    show zT G _ _ _ _ [] _ _ _ _ _ _
    refine zT.aload_n 0 dX1_feed_20 rfl rfl ?_
    refine zT.iload_n 2 dX1_feed_21 rfl rfl ?_
    refine zT.callV (M' := mX1_four) (b := x) [zI b] [] dX1_feed_22 kX1_194 rfl rfl (ci := 0) (r := (RX1, TX1, 42)) rfl (zPan.k hR17.sh) (C_X1_four hR17 (show zi b by assumption) (by first | (simp only [uCome_n]; omega) | omega)) (by decide) (k' := 0) (n' := 0) (by omega) (by omega) (by decide) (fun v22 S22_ m22_ h22 => ?_) (fun _ _ _ _ h => h.elim)
    obtain ⟨rfl, g22, hR22, o22⟩ := h22
    show zT G _ _ _ _ [] _ _ _ _ _ _
    refine zT.aload_n 0 dX1_feed_25 rfl rfl ?_
    refine zT.iload_n 3 dX1_feed_26 rfl rfl ?_
    refine zT.callV (M' := mX1_four) (b := x) [zI c] [] dX1_feed_27 kX1_194 rfl rfl (ci := 0) (r := (RX1, TX1, 42)) rfl (zPan.k hR22.sh) (C_X1_four hR22 (show zi c by assumption) (by first | (simp only [uCome_n]; omega) | omega)) (by decide) (k' := 0) (n' := 0) (by omega) (by omega) (by decide) (fun v27 S27_ m27_ h27 => ?_) (fun _ _ _ _ h => h.elim)
    obtain ⟨rfl, g27, hR27, o27⟩ := h27
    show zT G _ _ _ _ [] _ _ _ _ _ _
    refine zT.aload_n 0 dX1_feed_30 rfl rfl ?_
    refine zT.iload 4 dX1_feed_31 rfl ?_
    refine zT.callV (M' := mX1_four) (b := x) [zI e] [] dX1_feed_33 kX1_194 rfl rfl (ci := 0) (r := (RX1, TX1, 42)) rfl (zPan.k hR27.sh) (C_X1_four hR27 (show zi e by assumption) (by first | (simp only [uCome_n]; omega) | omega)) (by decide) (k' := 0) (n' := 0) (by omega) (by omega) (by decide) (fun v33 S33_ m33_ h33 => ?_) (fun _ _ _ _ h => h.elim)
    obtain ⟨rfl, g33, hR33, o33⟩ := h33
    show zT G _ _ _ _ [] _ _ _ _ _ _
    refine zT.aload_n 0 dX1_feed_36 rfl rfl ?_
    refine zT.iload 5 dX1_feed_37 rfl ?_
    refine zT.callV (M' := mX1_four) (b := x) [zI g] [] dX1_feed_39 kX1_194 rfl rfl (ci := 0) (r := (RX1, TX1, 42)) rfl (zPan.k hR33.sh) (C_X1_four hR33 (show zi g by assumption) (by first | (simp only [uCome_n]; omega) | omega)) (by decide) (k' := 0) (n' := 0) (by omega) (by omega) (by decide) (fun v39 S39_ m39_ h39 => ?_) (fun _ _ _ _ h => h.elim)
    obtain ⟨rfl, g39, hR39, o39⟩ := h39
    show zT G _ _ _ _ [] _ _ _ _ _ _
    refine zT.aload_n 0 dX1_feed_42 rfl rfl ?_
    refine zT.getI dX1_feed_43 fX1_191 rfl (zPan.k hR39.sh) (j := 1) (by decide) rfl (fun z43 => ?_)
    refine zT.iret dX1_feed_46 rfl ?_
    have q := hR39.tp.1
    rw [show uCome (uCome (uCome (uCome (uCome A a) b) c) e) g = uFeed A a b c e g from rfl, uFeed_n] at q
    rw [if_neg (by omega), if_neg (by omega)]
    exact ⟨by rw [q], ((((g17.tr g22).tr g27).tr g33).tr g39), hR39, ((((o17.tr o22).tr o27).tr o33).tr o39)⟩
  · refine zT.iconst dX1_feed_13 ?_
    refine zT.iret dX1_feed_14 rfl ?_
    rw [if_pos (by omega), if_pos (by omega)]
    exact ⟨rfl, zGr.rf, hR, zOut.rf⟩

theorem C_X1_end {G : zG}  {S : zS} {m : zMm} {x : Int} {A : zMm} (hR : rel S m x A) {n : Int} (hn : zi n) : zC G mX1_end 0 0 0 [zR x, zI n] S m (zPo S m x (some (zI (if 0 ≤ n ∧ n ≤ A 0 1002 then 1 else 0))) (if 0 ≤ n ∧ n ≤ A 0 1002 then zup A 0 1002 n else A)) zNX := by
  have t1 := hR.tp.1
  have t2 := hR.vtp.1
  refine zC.of [zR x, zI n] (by decide) rfl (zEn1 (zcR _) (zEn1 (zcI _) (zEn0 (by simp)))) rfl ?_
  refine zT.iload_n 1 dX1_end_0 rfl rfl ?_
  refine zT.if_lt (tgt := 12) dX1_end_1 (by decide) (by first | assumption | exact zq_i _ | exact zand_i _ _ | exact zor_i _ _ | exact zxor_i _ _ | exact zN _ | omega) (fun c1 => ?_) (fun c1 => ?_)
  · refine zT.iconst dX1_end_12 ?_
    refine zT.zret dX1_end_13 rfl (by omega) ?_
    rw [if_neg (by omega), if_neg (by omega)]
    exact ⟨rfl, zGr.rf, hR, zOut.rf⟩
  · refine zT.iload_n 1 dX1_end_4 rfl rfl ?_
    refine zT.aload_n 0 dX1_end_5 rfl rfl ?_
    refine zT.getI dX1_end_6 fX1_191 rfl (zPan.k hR.sh) (j := 1) (by decide) rfl (fun z6 => ?_)
    refine zT.ic_le (tgt := 14) dX1_end_9 (by decide) (by first | assumption | exact zq_i _ | exact zand_i _ _ | exact zor_i _ _ | exact zxor_i _ _ | exact zN _ | omega) (by first | assumption | exact zq_i _ | exact zand_i _ _ | exact zor_i _ _ | exact zxor_i _ _ | exact zN _ | omega) (fun c9 => ?_) (fun c9 => ?_)
    · refine zT.aload_n 0 dX1_end_14 rfl rfl ?_
      refine zT.iload_n 1 dX1_end_15 rfl rfl ?_
      refine zT.putI dX1_end_16 fX1_191 zs_1 rfl (zPan.k hR.sh) (j := 1) (by decide) rfl (by first | assumption | exact zq_i _ | exact zand_i _ _ | exact zor_i _ _ | exact zxor_i _ _ | exact zN _ | omega) ?_
      obtain ⟨m1, em1⟩ : ∃ z, z = zup m x 1 n := ⟨_, rfl⟩
      rw [← em1]
      refine zT.iconst dX1_end_19 ?_
      refine zT.zret dX1_end_20 rfl (by omega) ?_
      rw [if_pos (by omega), if_pos (by omega), em1]
      exact ⟨rfl, zGr.rf, hR.upLen (by omega), zOut.rf.up (by omega)⟩
    · refine zT.iconst dX1_end_12 ?_
      refine zT.zret dX1_end_13 rfl (by omega) ?_
      rw [if_neg (by omega), if_neg (by omega)]
      exact ⟨rfl, zGr.rf, hR, zOut.rf⟩

