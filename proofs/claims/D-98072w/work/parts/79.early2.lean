/-! earlier goes: the model (written by gen/m_early2.py) -/
theorem C_X13_earliest {G : zG} {S : zS} {m : zMm} {b : Int} (hb : zMod S b) {n : Int} {g : zGo} (hg : zMG m b n g) (hv : zGV n g) {K : Int → Int} (hK : zMK m b K) (hk : zKV K) {k : Int} (k0 : 0 ≤ k) (k1 : k < n) : zC G mX13_earliest 3 0 0 [zR b, zI k] S m (zDet (some (zI (fEl K g k))) S m) zNX := by
  have gv := hv.2.2 k k0 k1
  have hn4 := hv.2.1
  have gf := hg.2 k 2 k0 k1 (by omega) (by omega)
  refine zC.of [zR b, zI k, zU] (by decide) rfl (zEn1 (zcR _) (zEn1 (zcI _) (zEn0 (by simp)))) rfl ?_
  refine zT.iconst dX13_earliest_0 ?_
  refine zT.istore_n 2 dX13_earliest_1 rfl (by decide) (zpre1 rfl (zcI _)) ?_
  show zT G _ _ _ [zR b, zI k, zI 0] _ _ _ _ _ _ _
  have L2 : ∀ (N : Nat) (t : Int), (0 ≤ t) → (t ≤ g k 2) → (∀ j, 0 ≤ j → j < t → ¬ aWhy K g k j = 0) → ((g k 2 - t).toNat) < N → zT G mX13_earliest 3 2 [zR b, zI k, zI t] [] S m 0 0 (zDet (some (zI (fEl K g k))) S m) zNX := by
    intro N
    induction N with
    | zero => intro t t0 t1 hz hN; exact absurd hN (Nat.not_lt_zero _)
    | succ N ih2 =>
      intro t t0 t1 hz hN
      refine zT.iload_n 2 dX13_earliest_2 rfl rfl ?_
      refine zT.aload_n 0 dX13_earliest_3 rfl rfl ?_
      refine zT.iload_n 1 dX13_earliest_4 rfl rfl ?_
      refine zT.callV (M' := mX13_from) (b := b) [zI k] [zI t] dX13_earliest_5 kX13_297 rfl rfl (ci := 10) (r := (RX13, TX13, 62)) rfl (zMod.k hb) (C_X13_from hb (by first | assumption | exact zq_i _ | exact zand_i _ _ | exact zor_i _ _ | exact zN _ | omega)) (by decide) (k' := 0) (n' := 0) (by omega) (by omega) (by simp only [List.map, zcI, zcJ, zcR, List.sum_cons, List.sum_nil]; decide) (zdk (v := some (zI (m (b + 2) (59 + 5 * k + 2)))) ?_) (fun _ _ _ _ h => h.elim)
      show zT G _ _ _ _ [zI (m (b + 2) (59 + 5 * k + 2)), zI t] _ _ _ _ _ _
      rw [gf]
      show zT G _ _ _ _ [zI (g k 2), zI t] _ _ _ _ _ _
      refine zT.ic_ge (tgt := 26) dX13_earliest_8 (by decide) (by first | assumption | exact zq_i _ | exact zand_i _ _ | exact zor_i _ _ | exact zN _ | omega) (by first | assumption | exact zq_i _ | exact zand_i _ _ | exact zor_i _ _ | exact zN _ | omega) (fun c8 => ?_) (fun c8 => ?_)
      · refine zT.iload_n 2 dX13_earliest_26 rfl rfl ?_
        refine zT.iret dX13_earliest_27 rfl ?_
        refine ⟨?_, rfl, rfl⟩
        first
          | (have e9 : t = g k 2 := by omega
             rw [e9] at hz ⊢
             rw [fEl_f hz])
          | rw [fEl_t hz t0 (by omega) (by assumption)]
      · refine zT.aload_n 0 dX13_earliest_11 rfl rfl ?_
        refine zT.iload_n 1 dX13_earliest_12 rfl rfl ?_
        refine zT.iload_n 2 dX13_earliest_13 rfl rfl ?_
        refine zT.callV (M' := mX13_wrong) (b := b) [zI k, zI t] [] dX13_earliest_14 kX13_312 rfl rfl (ci := 10) (r := (RX13, TX13, 62)) rfl (zMod.k hb) (C_X13_wrong hb hg hv hK hk k0 k1 (by omega) (by omega)) (by decide) (k' := 0) (n' := 0) (by omega) (by omega) (by decide) (zdk (v := some (zI (aWhy K g k t))) ?_) (fun _ _ _ _ h => h.elim)
        show zT G _ _ _ _ [zI (aWhy K g k t)] _ _ _ _ _ _
        have hwb := aWhy_b (K := K) (g := g) (k := k) (t := t)
        refine zT.if_eq (tgt := 26) dX13_earliest_17 (by decide) (by first | assumption | exact zq_i _ | exact zand_i _ _ | exact zor_i _ _ | exact zN _ | omega) (fun c17 => ?_) (fun c17 => ?_)
        · refine zT.iload_n 2 dX13_earliest_26 rfl rfl ?_
          refine zT.iret dX13_earliest_27 rfl ?_
          refine ⟨?_, rfl, rfl⟩
          first
            | (have e9 : t = g k 2 := by omega
               rw [e9] at hz ⊢
               rw [fEl_f hz])
            | rw [fEl_t hz t0 (by omega) (by assumption)]
        · refine zT.iinc 2 dX13_earliest_20 rfl (by decide) (zpre1 rfl (zcI _)) ?_
          show zT G _ _ _ [zR b, zI k, zI (t + 1)] _ _ _ _ _ _ _
          refine zT.goto (tgt := 2) dX13_earliest_23 (by decide) ?_
          exact ih2 _ (by first | assumption | exact zq_i _ | exact zand_i _ _ | exact zor_i _ _ | exact zN _ | omega) (by first | assumption | exact zq_i _ | exact zand_i _ _ | exact zor_i _ _ | exact zN _ | omega) (by exact zal_s hz (by assumption)) (by omega)
  exact L2 _ _ (by first | assumption | exact zq_i _ | exact zand_i _ _ | exact zor_i _ _ | exact zN _ | omega) (by first | assumption | exact zq_i _ | exact zand_i _ _ | exact zor_i _ _ | exact zN _ | omega) (by exact zal_0) (Nat.lt_succ_self _)

theorem C_X13_canBeEarly {G : zG} {S : zS} {m : zMm} {b : Int} (hb : zMod S b) {n : Int} {g : zGo} (hg : zMG m b n g) (hv : zGV n g) {K : Int → Int} (hK : zMK m b K) (hk : zKV K) : zC G mX13_canBeEarly 4 0 0 [zR b] S m (zDet (some (zI (zq (¬ (∀ i, 0 ≤ i → i < n → ¬ fEl K g i < g i 2))))) S m) zNX := by
  have hn3 := hv.1
  have hn4 := hv.2.1
  have hgn := hg.1
  refine zC.of [zR b, zU] (by decide) rfl (zEn1 (zcR _) (zEn0 (by simp))) rfl ?_
  refine zT.iconst dX13_canBeEarly_0 ?_
  refine zT.istore_n 1 dX13_canBeEarly_1 rfl (by decide) (zpre1 rfl (zcR _)) ?_
  show zT G _ _ _ [zR b, zI 0] _ _ _ _ _ _ _
  have L2 : ∀ (N : Nat) (k : Int), (0 ≤ k) → (k ≤ n) → (∀ j, 0 ≤ j → j < k → ¬ fEl K g j < g j 2) → ((n - k).toNat) < N → zT G mX13_canBeEarly 4 2 [zR b, zI k] [] S m 0 0 (zDet (some (zI (zq (¬ (∀ i, 0 ≤ i → i < n → ¬ fEl K g i < g i 2))))) S m) zNX := by
    intro N
    induction N with
    | zero => intro k k0 k1 hz hN; exact absurd hN (Nat.not_lt_zero _)
    | succ N ih2 =>
      intro k k0 k1 hz hN
      refine zT.iload_n 1 dX13_canBeEarly_2 rfl rfl ?_
      refine zT.aload_n 0 dX13_canBeEarly_3 rfl rfl ?_
      refine zT.callV (M' := mX13_goes) (b := b) [] [zI k] dX13_canBeEarly_4 kX13_284 rfl rfl (ci := 10) (r := (RX13, TX13, 62)) rfl (zMod.k hb) (C_X13_goes hb) (by decide) (k' := 0) (n' := 0) (by omega) (by omega) (by simp only [List.map, zcI, zcJ, zcR, List.sum_cons, List.sum_nil]; decide) (zdk (v := some (zI (m (b + 2) (58)))) ?_) (fun _ _ _ _ h => h.elim)
      show zT G _ _ _ _ [zI (m (b + 2) (58)), zI k] _ _ _ _ _ _
      refine zT.ic_ge (tgt := 31) dX13_canBeEarly_7 (by decide) (by first | assumption | exact zq_i _ | exact zand_i _ _ | exact zor_i _ _ | exact zN _ | omega) (by first | assumption | exact zq_i _ | exact zand_i _ _ | exact zor_i _ _ | exact zN _ | omega) (fun c7 => ?_) (fun c7 => ?_)
      · refine zT.iconst dX13_canBeEarly_31 ?_
        refine zT.zret dX13_canBeEarly_32 rfl (by omega) ?_
        first
          | (rw [zq_t (fun z => z k k0 (by omega) (by omega))]; exact ⟨rfl, rfl, rfl⟩)
          | (rw [zq_f (fun z => z (fun i a c => hz i a (by omega)))]; exact ⟨rfl, rfl, rfl⟩)
      · have gf := hg.2 k 2 k0 (by omega) (by omega) (by omega)
        have gv := hv.2.2 k k0 (by omega)
        have hEl := fEl_b (K := K) (g := g) (k := k) gv.2.2.2.2.1
        refine zT.aload_n 0 dX13_canBeEarly_10 rfl rfl ?_
        refine zT.iload_n 1 dX13_canBeEarly_11 rfl rfl ?_
        refine zT.callV (M' := mX13_earliest) (b := b) [zI k] [] dX13_canBeEarly_12 kX13_398 rfl rfl (ci := 10) (r := (RX13, TX13, 62)) rfl (zMod.k hb) (C_X13_earliest hb hg hv hK hk k0 (by omega)) (by decide) (k' := 0) (n' := 0) (by omega) (by omega) (by decide) (zdk (v := some (zI (fEl K g k))) ?_) (fun _ _ _ _ h => h.elim)
        show zT G _ _ _ _ [zI (fEl K g k)] _ _ _ _ _ _
        refine zT.aload_n 0 dX13_canBeEarly_15 rfl rfl ?_
        refine zT.iload_n 1 dX13_canBeEarly_16 rfl rfl ?_
        refine zT.callV (M' := mX13_from) (b := b) [zI k] [zI (fEl K g k)] dX13_canBeEarly_17 kX13_297 rfl rfl (ci := 10) (r := (RX13, TX13, 62)) rfl (zMod.k hb) (C_X13_from hb (by first | assumption | exact zq_i _ | exact zand_i _ _ | exact zor_i _ _ | exact zN _ | omega)) (by decide) (k' := 0) (n' := 0) (by omega) (by omega) (by simp only [List.map, zcI, zcJ, zcR, List.sum_cons, List.sum_nil]; decide) (zdk (v := some (zI (m (b + 2) (59 + 5 * k + 2)))) ?_) (fun _ _ _ _ h => h.elim)
        show zT G _ _ _ _ [zI (m (b + 2) (59 + 5 * k + 2)), zI (fEl K g k)] _ _ _ _ _ _
        rw [gf]
        show zT G _ _ _ _ [zI (g k 2), zI (fEl K g k)] _ _ _ _ _ _
        refine zT.ic_ge (tgt := 25) dX13_canBeEarly_20 (by decide) (by first | assumption | exact zq_i _ | exact zand_i _ _ | exact zor_i _ _ | exact zN _ | omega) (by first | assumption | exact zq_i _ | exact zand_i _ _ | exact zor_i _ _ | exact zN _ | omega) (fun c20 => ?_) (fun c20 => ?_)
        · refine zT.iinc 1 dX13_canBeEarly_25 rfl (by decide) (zpre1 rfl (zcR _)) ?_
          show zT G _ _ _ [zR b, zI (k + 1)] _ _ _ _ _ _ _
          refine zT.goto (tgt := 2) dX13_canBeEarly_28 (by decide) ?_
          exact ih2 _ (by first | assumption | exact zq_i _ | exact zand_i _ _ | exact zor_i _ _ | exact zN _ | omega) (by first | assumption | exact zq_i _ | exact zand_i _ _ | exact zor_i _ _ | exact zN _ | omega) (by exact zal_s hz (by omega)) (by omega)
        · refine zT.iconst dX13_canBeEarly_23 ?_
          refine zT.zret dX13_canBeEarly_24 rfl (by omega) ?_
          first
            | (rw [zq_t (fun z => z k k0 (by omega) (by omega))]; exact ⟨rfl, rfl, rfl⟩)
            | (rw [zq_f (fun z => z (fun i a c => hz i a (by omega)))]; exact ⟨rfl, rfl, rfl⟩)
  exact L2 _ _ (by first | assumption | exact zq_i _ | exact zand_i _ _ | exact zor_i _ _ | exact zN _ | omega) (by first | assumption | exact zq_i _ | exact zand_i _ _ | exact zor_i _ _ | exact zN _ | omega) (by exact zal_0) (Nat.lt_succ_self _)

theorem C_X13_early {G : zG} {S : zS} {m : zMm} {b : Int} {A : zMm} (hb : zMod S b) (hA : yEq m b A) (hV : aVd A)  : zC G mX13_early 5 0 0 [zR b] S m (yPo S m b (some (zI (eN (aK (A 0 1023) (A 2)) A (A 2 58).toNat))) (if eN (aK (A 0 1023) (A 2)) A (A 2 58).toNat = 0 then uLay (zup A 0 1000 0) else eA (aK (A 0 1023) (A 2)) (A 2 58).toNat (uSnap (uLay (zup A 0 1000 0))))) zNX := by
  have ym := hA.R hV
  have nm := ym.n
  have sm := ym.s
  have rm := ym.r
  have hk := hV.ki.1
  have hk0 := hk.1
  have hp0 := hV.pl.1
  have hp1 := hV.pl.2.1
  have hsn := hA.at (j := 1022)
  have hsv := hV.un.1
  have hK0 : aK ((uSnap (uLay (zup A 0 1000 0))) 0 1023) ((uSnap (uLay (zup A 0 1000 0))) 2) = (aK (A 0 1023) (A 2)) := (uSL_K (vBgT hV.bg)).trans aKT
  have hA0 : (uSnap (uLay (zup A 0 1000 0))) 0 1023 = 1 := uSL_b (vBgT hV.bg)
  refine zC.of [zR b, zU, zU, zU] (by decide) rfl (zEn1 (zcR _) (zEn0 (by simp))) rfl ?_
  refine zT.rng hb.a1014 (fun zN => ?_)
  obtain ⟨Q9, eQ9⟩ : ∃ z : zQt, z = (yPo S m b (some (zI (eN (aK (A 0 1023) (A 2)) A (A 2 58).toNat))) (if eN (aK (A 0 1023) (A 2)) A (A 2 58).toNat = 0 then uLay (zup A 0 1000 0) else eA (aK (A 0 1023) (A 2)) (A 2 58).toNat (uSnap (uLay (zup A 0 1000 0))))) := ⟨_, rfl⟩
  rw [← eQ9]
  refine zT.aload_n 0 dX13_early_0 rfl rfl ?_
  refine zT.iconst dX13_early_1 ?_
  refine zT.putI dX13_early_2 fX13_122 zs_1000 rfl (zMod.k hb) (j := 0) (by decide) rfl (by first | assumption | exact zq_i _ | exact zand_i _ _ | exact zor_i _ _ | exact zN _ | omega) ?_
  obtain ⟨m1, em1⟩ : ∃ z, z = zup m b 1000 0 := ⟨_, rfl⟩
  rw [← em1]
  have ym1 : yR m1 b A := by rw [em1]; exact ym.up (by omega)
  have nm1 := ym1.n
  have sm1 := ym1.s
  have rm1 := ym1.r
  refine zT.aload_n 0 dX13_early_5 rfl rfl ?_
  refine zT.callV (M' := mX13_lay) (b := b) [] [] dX13_early_6 kX13_202 rfl rfl (ci := 10) (r := (RX13, TX13, 62)) rfl (zMod.k hb) (C_X13_lay hb) (by decide) (k' := 0) (n' := 0) (by omega) (by omega) (by decide) (zdk (v := none) ?_) (fun _ _ _ _ h => h.elim)
  show zT G _ _ _ _ [] _ _ _ _ _ _
  obtain ⟨m2, em2⟩ : ∃ z, z = ylaid m1 b := ⟨_, rfl⟩
  rw [← em2]
  have ym2 : yL m2 b A := by rw [em2]; exact hA.L2 hV (fun j => by rw [em1, zup_ne (by omega)]) (by rw [em1, zup_ne (by omega)])
  have nm2 := ym2.1.n
  have sm2 := ym2.1.s
  have rm2 := ym2.1.r
  refine zT.aload_n 0 dX13_early_9 rfl rfl ?_
  refine zT.callV (M' := mX13_canBeEarly) (b := b) [] [] dX13_early_10 kX13_401 rfl rfl (ci := 10) (r := (RX13, TX13, 62)) rfl (zMod.k hb) (C_X13_canBeEarly hb (n := A 2 58) (g := (aGo (A 2) 58)) ym2.1.g hV.pl (K := (aK (A 0 1023) (A 2))) ym2.2 hk) (by decide) (k' := 0) (n' := 0) (by omega) (by omega) (by decide) (zdk (v := some (zI (zq (¬ (∀ i, 0 ≤ i → i < A 2 58 → ¬ fEl (aK (A 0 1023) (A 2)) (aGo (A 2) 58) i < (aGo (A 2) 58) i 2))))) ?_) (fun _ _ _ _ h => h.elim)
  show zT G _ _ _ _ [zI (zq (¬ (∀ i, 0 ≤ i → i < A 2 58 → ¬ fEl (aK (A 0 1023) (A 2)) (aGo (A 2) 58) i < (aGo (A 2) 58) i 2)))] _ _ _ _ _ _
  refine zT.if_neB (tgt := 18) dX13_early_13 (by decide) (fun c13 => ?_) (fun c13 => ?_)
  · have hcan : ¬ (∀ i, 0 ≤ i → i < A 2 58 → ¬ fEl (aK (A 0 1023) (A 2)) (aGo (A 2) 58) i < (aGo (A 2) 58) i 2) := by assumption
    have hn0 : 0 < A 2 58 := Classical.byContradiction fun q => hcan (fun i a c => by omega)
    have hB1 : A 0 1023 = 1 := by
          rcases hV.bg with z | ⟨z, z2⟩
          · exact z
          · rw [z2] at hn0
            omega
    have eT : uLay (zup A 0 1000 0) = (zup A 0 1000 0) := uLay_1 (by rw [zup_nj (by decide)]; exact hB1)
    have e2 : (uSnap (uLay (zup A 0 1000 0))) 2 = A 2 := by rw [uSnap_r (by omega) (by omega), eT]; exact zup_fn (by omega)
    have e58 : (uSnap (uLay (zup A 0 1000 0))) 2 58 = A 2 58 := by rw [e2]
    refine zT.aload_n 0 dX13_early_18 rfl rfl ?_
    refine zT.callV (M' := mX13_snap) (b := b) [] [] dX13_early_19 kX13_290 rfl rfl (ci := 10) (r := (RX13, TX13, 62)) rfl (zMod.k hb) (C_X13_snap hb (by rw [em2, ylaid_f (by decide), em1, zup_ne (by omega)]; omega) (by rw [em2, ylaid_f (by decide), em1, zup_ne (by omega)]; omega)) (by decide) (k' := 0) (n' := 0) (by omega) (by omega) (by decide) (zdk (v := none) ?_) (fun _ _ _ _ h => h.elim)
    show zT G _ _ _ _ [] _ _ _ _ _ _
    obtain ⟨m3, em3⟩ : ∃ z, z = ysnap m2 b := ⟨_, rfl⟩
    rw [← em3]
    have ym3 : yL m3 b A := ym2.row (fun j => by rw [em3]; exact ysnap_2)
    have nm3 := ym3.1.n
    have sm3 := ym3.1.s
    have rm3 := ym3.1.r
    refine zT.iconst dX13_early_22 ?_
    refine zT.istore_n 1 dX13_early_23 rfl (by decide) (zpre1 rfl (zcR _)) ?_
    show zT G _ _ _ [zR b, zI 0, zU, zU] _ _ _ _ _ _ _
    refine zT.iconst dX13_early_24 ?_
    refine zT.istore_n 2 dX13_early_25 rfl (by decide) (zpre1 rfl (zcI _)) ?_
    show zT G _ _ _ [zR b, zI 0, zI 0, zU] _ _ _ _ _ _ _
    have L26 : ∀ (N : Nat) (mA : zMm) (k : Int) (v : Int), (yEw mA b (eA (aK (A 0 1023) (A 2)) k.toNat (uSnap (uLay (zup A 0 1000 0))))) → (zIn b m mA) → (0 ≤ k) → (k ≤ A 2 58) → (v = eN (aK (A 0 1023) (A 2)) (uSnap (uLay (zup A 0 1000 0))) k.toNat) → ((A 2 58 - k).toNat) < N → zT G mX13_early 5 26 [zR b, zI v, zI k, zU] [] S mA 0 0 Q9 zNX := by
      intro N
      induction N with
      | zero => intro mA k v hE hI k0 k1 hv hN; exact absurd hN (Nat.not_lt_zero _)
      | succ N ih26 =>
        intro mA k v hE hI k0 k1 hv hN
        have hvv := eN_b (K := (aK (A 0 1023) (A 2))) (A := (uSnap (uLay (zup A 0 1000 0)))) k.toNat
        have hBn : eA (aK (A 0 1023) (A 2)) k.toNat (uSnap (uLay (zup A 0 1000 0))) 2 58 = A 2 58 := (eA_n k.toNat).trans e58
        have hBp : aPl (uSnap (uLay (zup A 0 1000 0))) (eA (aK (A 0 1023) (A 2)) k.toNat (uSnap (uLay (zup A 0 1000 0)))) := eA_pl (by rw [e58]; omega) k.toNat (by rw [e58]; omega)
        have kn9 := hE.n
        rw [hBn] at kn9
        refine zT.iload_n 2 dX13_early_26 rfl rfl ?_
        refine zT.aload_n 0 dX13_early_27 rfl rfl ?_
        refine zT.callV (M' := mX13_goes) (b := b) [] [zI k] dX13_early_28 kX13_284 rfl rfl (ci := 10) (r := (RX13, TX13, 62)) rfl (zMod.k hb) (C_X13_goes hb) (by decide) (k' := 0) (n' := 0) (by omega) (by omega) (by simp only [List.map, zcI, zcJ, zcR, List.sum_cons, List.sum_nil]; decide) (zdk (v := some (zI (mA (b + 2) (58)))) ?_) (fun _ _ _ _ h => h.elim)
        show zT G _ _ _ _ [zI (mA (b + 2) (58)), zI k] _ _ _ _ _ _
        refine zT.ic_ge (tgt := 75) dX13_early_31 (by decide) (by first | assumption | exact zq_i _ | exact zand_i _ _ | exact zor_i _ _ | exact zN _ | omega) (by first | assumption | exact zq_i _ | exact zand_i _ _ | exact zor_i _ _ | exact zN _ | omega) (fun c31 => ?_) (fun c31 => ?_)
        · refine zT.iload_n 1 dX13_early_75 rfl rfl ?_
          refine zT.iret dX13_early_76 rfl ?_
          rw [eQ9]
          have hkn : k = A 2 58 := by omega
          subst hkn
          have ee := eN_2 (K := (aK (A 0 1023) (A 2))) e2 (A 2 58).toNat
          have hne : eN (aK (A 0 1023) (A 2)) A (A 2 58).toNat ≠ 0 := fun q => hcan (fun i a c => (eN_0 hV.pl (A 2 58).toNat (by omega) q).2 i a (by omega))
          exact ⟨by rw [hv, ee], rfl, hI, by rw [if_neg hne]; exact hE⟩
        · obtain ⟨B, hB9⟩ : ∃ z, z = eA (aK (A 0 1023) (A 2)) k.toNat (uSnap (uLay (zup A 0 1000 0))) := ⟨_, rfl⟩
          rw [← hB9] at hE hBn hBp
          have hgB : zMG mA b (A 2 58) (aGo (B 2) 58) := by have q := hE.G; rw [hBn] at q; exact q
          have hvB : zGV (A 2 58) (aGo (B 2) 58) := by have q := eA_v (K := (aK (A 0 1023) (A 2))) (A := (uSnap (uLay (zup A 0 1000 0)))) (by rw [e58, e2]; exact hV.pl) k.toNat (by rw [e58]; omega); rw [← hB9, e58] at q; exact q
          have hKB : zMK mA b (aK (A 0 1023) (A 2)) := hE.K hBp hA0 hK0
          have gv := hvB.2.2 k k0 (by omega)
          have gf := hgB.2 k 2 k0 (by omega) (by omega) (by omega)
          have hEl := fEl_b (K := (aK (A 0 1023) (A 2))) (g := aGo (B 2) 58) (k := k) gv.2.2.2.2.1
          refine zT.aload_n 0 dX13_early_34 rfl rfl ?_
          refine zT.iload_n 2 dX13_early_35 rfl rfl ?_
          refine zT.callV (M' := mX13_earliest) (b := b) [zI k] [] dX13_early_36 kX13_398 rfl rfl (ci := 10) (r := (RX13, TX13, 62)) rfl (zMod.k hb) (C_X13_earliest hb (n := A 2 58) (g := aGo (B 2) 58) hgB hvB (K := (aK (A 0 1023) (A 2))) hKB hk k0 (by omega)) (by decide) (k' := 0) (n' := 0) (by omega) (by omega) (by decide) (zdk (v := some (zI (fEl (aK (A 0 1023) (A 2)) (aGo (B 2) 58) k))) ?_) (fun _ _ _ _ h => h.elim)
          show zT G _ _ _ _ [zI (fEl (aK (A 0 1023) (A 2)) (aGo (B 2) 58) k)] _ _ _ _ _ _
          refine zT.istore_n 3 dX13_early_39 rfl (by decide) (zpre1 rfl (zcI _)) ?_
          show zT G _ _ _ [zR b, zI v, zI k, zI (fEl (aK (A 0 1023) (A 2)) (aGo (B 2) 58) k)] _ _ _ _ _ _ _
          refine zT.iload_n 3 dX13_early_40 rfl rfl ?_
          refine zT.aload_n 0 dX13_early_41 rfl rfl ?_
          refine zT.iload_n 2 dX13_early_42 rfl rfl ?_
          refine zT.callV (M' := mX13_from) (b := b) [zI k] [zI (fEl (aK (A 0 1023) (A 2)) (aGo (B 2) 58) k)] dX13_early_43 kX13_297 rfl rfl (ci := 10) (r := (RX13, TX13, 62)) rfl (zMod.k hb) (C_X13_from hb (by first | assumption | exact zq_i _ | exact zand_i _ _ | exact zor_i _ _ | exact zN _ | omega)) (by decide) (k' := 0) (n' := 0) (by omega) (by omega) (by simp only [List.map, zcI, zcJ, zcR, List.sum_cons, List.sum_nil]; decide) (zdk (v := some (zI (mA (b + 2) (59 + 5 * k + 2)))) ?_) (fun _ _ _ _ h => h.elim)
          show zT G _ _ _ _ [zI (mA (b + 2) (59 + 5 * k + 2)), zI (fEl (aK (A 0 1023) (A 2)) (aGo (B 2) 58) k)] _ _ _ _ _ _
          rw [gf]
          show zT G _ _ _ _ [zI (aGo (B 2) 58 k 2), zI (fEl (aK (A 0 1023) (A 2)) (aGo (B 2) 58) k)] _ _ _ _ _ _
          refine zT.ic_ne (tgt := 52) dX13_early_46 (by decide) (by first | assumption | exact zq_i _ | exact zand_i _ _ | exact zor_i _ _ | exact zN _ | omega) (by first | assumption | exact zq_i _ | exact zand_i _ _ | exact zor_i _ _ | exact zN _ | omega) (fun c46 => ?_) (fun c46 => ?_)
          · refine zT.aload_n 0 dX13_early_52 rfl rfl ?_
            refine zT.getF dX13_early_53 fX13_13 rfl (zMod.k hb) (j := 14) (by decide) rfl (zMod.f1014 hb) ?_
            refine zT.bipush dX13_early_56 ?_
            refine zT.iconst dX13_early_58 ?_
            refine zT.iload_n 2 dX13_early_59 rfl rfl ?_
            refine zT.imul dX13_early_60 ?_
            refine zT.iadd dX13_early_61 ?_
            refine zT.iconst dX13_early_62 ?_
            refine zT.iadd dX13_early_63 ?_
            refine zT.iload_n 3 dX13_early_64 rfl rfl ?_
            refine zT.iast dX13_early_65 (zMod.a1014 hb) (by first | assumption | exact zq_i _ | exact zand_i _ _ | exact zor_i _ _ | exact zN _ | omega) (by rw [(zMod.n1014 hb)]; first | assumption | exact zq_i _ | exact zand_i _ _ | exact zor_i _ _ | exact zN _ | omega) (by first | assumption | exact zq_i _ | exact zand_i _ _ | exact zor_i _ _ | exact zN _ | omega) ?_
            obtain ⟨m4, em4⟩ : ∃ z, z = zup mA (b + 2) ((59 + (5 * k)) + 2) (fEl (aK (A 0 1023) (A 2)) (aGo (B 2) 58) k) := ⟨_, rfl⟩
            rw [← em4]
            refine zT.iinc 1 dX13_early_66 rfl (by decide) (zpre1 rfl (zcR _)) ?_
            show zT G _ _ _ [zR b, zI (v + 1), zI k, zI (fEl (aK (A 0 1023) (A 2)) (aGo (B 2) 58) k)] _ _ _ _ _ _ _
            refine zT.iinc 2 dX13_early_69 rfl (by decide) (zpre1 rfl (zcI _)) ?_
            show zT G _ _ _ [zR b, zI (v + 1), zI (k + 1), zI (fEl (aK (A 0 1023) (A 2)) (aGo (B 2) 58) k)] _ _ _ _ _ _ _
            refine zT.goto (tgt := 26) dX13_early_72 (by decide) ?_
            refine zT.loc (V' := [zR b, zI (v + 1), zI (k + 1), zU]) ?_ ⟨Or.inr rfl, Or.inr rfl, Or.inr rfl, Or.inl rfl, trivial⟩
            exact ih26 _ _ _ (by
                have e9 : eA (aK (A 0 1023) (A 2)) (k + 1).toNat (uSnap (uLay (zup A 0 1000 0))) = uMove B k (fEl (aK (A 0 1023) (A 2)) (aGo (B 2) 58) k) := by
                  rw [show (k + 1).toNat = k.toNat + 1 by omega]
                  show uMove (eA (aK (A 0 1023) (A 2)) k.toNat (uSnap (uLay (zup A 0 1000 0)))) ((k.toNat : Nat) : Int) (fEl _ (aGo (eA (aK (A 0 1023) (A 2)) k.toNat (uSnap (uLay (zup A 0 1000 0))) 2) 58) ((k.toNat : Nat) : Int)) = _
                  rw [show ((k.toNat : Nat) : Int) = k by omega, ← hB9]
                rw [e9, em4]
                exact hE.up) (by rw [em4]; exact hI.up (by omega) (by omega)) (by omega) (by omega) (by
                rw [show (k + 1).toNat = k.toNat + 1 by omega]
                show _ = eN (aK (A 0 1023) (A 2)) (uSnap (uLay (zup A 0 1000 0))) k.toNat + zq (fEl (aK (A 0 1023) (A 2)) (aGo (eA (aK (A 0 1023) (A 2)) k.toNat (uSnap (uLay (zup A 0 1000 0))) 2) 58) ((k.toNat : Nat) : Int) < aGo (eA (aK (A 0 1023) (A 2)) k.toNat (uSnap (uLay (zup A 0 1000 0))) 2) 58 ((k.toNat : Nat) : Int) 2)
                rw [show ((k.toNat : Nat) : Int) = k by omega, ← hB9, ← hv]
                first
                  | (rw [zq_t (by omega)]; done)
                  | (rw [zq_f (by omega)]; omega)) (by omega)
          · refine zT.goto (tgt := 69) dX13_early_49 (by decide) ?_
            refine zT.iinc 2 dX13_early_69 rfl (by decide) (zpre1 rfl (zcI _)) ?_
            show zT G _ _ _ [zR b, zI v, zI (k + 1), zI (fEl (aK (A 0 1023) (A 2)) (aGo (B 2) 58) k)] _ _ _ _ _ _ _
            refine zT.goto (tgt := 26) dX13_early_72 (by decide) ?_
            refine zT.loc (V' := [zR b, zI v, zI (k + 1), zU]) ?_ ⟨Or.inr rfl, Or.inr rfl, Or.inr rfl, Or.inl rfl, trivial⟩
            exact ih26 _ _ _ (by
                have e9 : eA (aK (A 0 1023) (A 2)) (k + 1).toNat (uSnap (uLay (zup A 0 1000 0))) = uMove B k (fEl (aK (A 0 1023) (A 2)) (aGo (B 2) 58) k) := by
                  rw [show (k + 1).toNat = k.toNat + 1 by omega]
                  show uMove (eA (aK (A 0 1023) (A 2)) k.toNat (uSnap (uLay (zup A 0 1000 0)))) ((k.toNat : Nat) : Int) (fEl _ (aGo (eA (aK (A 0 1023) (A 2)) k.toNat (uSnap (uLay (zup A 0 1000 0))) 2) 58) ((k.toNat : Nat) : Int)) = _
                  rw [show ((k.toNat : Nat) : Int) = k by omega, ← hB9]
                rw [e9, show fEl (aK (A 0 1023) (A 2)) (aGo (B 2) 58) k = aGo (B 2) 58 k 2 by omega, uMove_id]
                exact hE) (by exact hI) (by omega) (by omega) (by
                rw [show (k + 1).toNat = k.toNat + 1 by omega]
                show _ = eN (aK (A 0 1023) (A 2)) (uSnap (uLay (zup A 0 1000 0))) k.toNat + zq (fEl (aK (A 0 1023) (A 2)) (aGo (eA (aK (A 0 1023) (A 2)) k.toNat (uSnap (uLay (zup A 0 1000 0))) 2) 58) ((k.toNat : Nat) : Int) < aGo (eA (aK (A 0 1023) (A 2)) k.toNat (uSnap (uLay (zup A 0 1000 0))) 2) 58 ((k.toNat : Nat) : Int) 2)
                rw [show ((k.toNat : Nat) : Int) = k by omega, ← hB9, ← hv]
                first
                  | (rw [zq_t (by omega)]; done)
                  | (rw [zq_f (by omega)]; omega)) (by omega)
    exact L26 _ _ _ _ (by rw [em3, em2, em1]; exact hA.up0.lay.snap.w) (by rw [em3, em2, em1]; exact zIn.rf.up0.lay.snap) (by omega) (by first | assumption | exact zq_i _ | exact zand_i _ _ | exact zor_i _ _ | exact zN _ | omega) (by rfl) (Nat.lt_succ_self _)
  · refine zT.iconst dX13_early_16 ?_
    refine zT.iret dX13_early_17 rfl ?_
    rw [eQ9]
    have h0 : ∀ i, 0 ≤ i → i < A 2 58 → ¬ fEl (aK (A 0 1023) (A 2)) (aGo (A 2) 58) i < (aGo (A 2) 58) i 2 := Classical.byContradiction fun q => by first | exact absurd q (by assumption) | (rename_i z; exact z q)
    have e0 : eN (aK (A 0 1023) (A 2)) A (A 2 58).toNat = 0 := eN_1 hV.pl _ (by omega) (fun i a c => h0 i a (by omega))
    exact ⟨by rw [e0], rfl, by rw [em2, em1]; exact zIn.rf.up0.lay, by rw [if_pos e0, em2, em1]; exact hA.up0.lay.w⟩

