/-! PanSlicesModel: idle, fewest, alike, alikeAt, judge (written by gen/m_mod6.py) -/
theorem C_X13_alike {G : zG} {S : zS} {m : zMm} {b : Int} {A : zMm} (hb : zMod S b) (hA : yEq m b A) (hV : aVd A) {n k : Int} (hn : zi n) (hk1 : zi k) : zC G mX13_alike 2 0 0 [zR b, zI n, zI k] S m (zDet (some (zI (if (1 ≤ n ∧ n ≤ 4000) ∧ 1 ≤ k ∧ k ≤ 60 then max 2 ((2 * n + k - 1) / k) else -1))) S (zup m b 1000 0)) zNX := by
  have ym := hA.R hV
  have nm := ym.n
  have sm := ym.s
  have rm := ym.r
  have hk := hV.ki.1
  have hk0 := hk.1
  have hp0 := hV.pl.1
  have hp1 := hV.pl.2.1
  refine zC.of [zR b, zI n, zI k] (by decide) rfl (zEn1 (zcR _) (zEn1 (zcI _) (zEn1 (zcI _) (zEn0 (by simp))))) rfl ?_
  refine zT.rng hb.a1014 (fun zN => ?_)
  obtain ⟨Q9, eQ9⟩ : ∃ z : zQt, z = (zDet (some (zI (if (1 ≤ n ∧ n ≤ 4000) ∧ 1 ≤ k ∧ k ≤ 60 then max 2 ((2 * n + k - 1) / k) else -1))) S (zup m b 1000 0)) := ⟨_, rfl⟩
  rw [← eQ9]
  refine zT.aload_n 0 dX13_alike_0 rfl rfl ?_
  refine zT.iconst dX13_alike_1 ?_
  refine zT.putI dX13_alike_2 fX13_122 zs_1000 rfl (zMod.k hb) (j := 0) (by decide) rfl (by first | assumption | exact zq_i _ | exact zand_i _ _ | exact zor_i _ _ | exact zN _ | omega) ?_
  obtain ⟨m1, em1⟩ : ∃ z, z = zup m b 1000 0 := ⟨_, rfl⟩
  rw [← em1]
  have ym1 : yR m1 b A := by rw [em1]; exact ym.up (by omega)
  have nm1 := ym1.n
  have sm1 := ym1.s
  have rm1 := ym1.r
  refine zT.iload_n 1 dX13_alike_5 rfl rfl ?_
  refine zT.iload_n 2 dX13_alike_6 rfl rfl ?_
  refine zT.callS (M' := mX13_areAlike) [zI n, zI k] [] dX13_alike_7 kX13_407 rfl rfl (C_X13_areAlike (by first | assumption | exact zq_i _ | exact zand_i _ _ | exact zor_i _ _ | exact zN _ | omega) (by first | assumption | exact zq_i _ | exact zand_i _ _ | exact zor_i _ _ | exact zN _ | omega)) (by decide) (k' := 0) (n' := 0) (by omega) (by omega) (by decide) (zdk (v := some (zI (zq ((1 ≤ n ∧ n ≤ 4000) ∧ 1 ≤ k ∧ k ≤ 60)))) ?_) (fun _ _ _ _ h => h.elim)
  show zT G _ _ _ _ [zI (zq ((1 ≤ n ∧ n ≤ 4000) ∧ 1 ≤ k ∧ k ≤ 60))] _ _ _ _ _ _
  refine zT.if_eqB (tgt := 27) dX13_alike_10 (by decide) (fun c10 => ?_) (fun c10 => ?_)
  · refine zT.iconst dX13_alike_27 ?_
    refine zT.iret dX13_alike_28 rfl ?_
    rw [eQ9]
    first | exact ⟨by rw [if_pos (by omega)], rfl, by rw [em1]⟩ | exact ⟨by rw [if_neg (by omega)], rfl, by rw [em1]⟩
  · have hq : 0 ≤ (2 * n + k - 1) / k ∧ (2 * n + k - 1) / k ≤ 2 * n + k - 1 := ⟨Int.ediv_nonneg (by omega) (by omega), Int.ediv_le_self _ (by omega)⟩
    refine zT.iconst dX13_alike_13 ?_
    refine zT.iconst dX13_alike_14 ?_
    refine zT.iload_n 1 dX13_alike_15 rfl rfl ?_
    refine zT.imul dX13_alike_16 ?_
    refine zT.iload_n 2 dX13_alike_17 rfl rfl ?_
    refine zT.callS (M' := mX13_up) [zI (2 * n), zI k] [zI 2] dX13_alike_18 kX13_346 rfl rfl (C_X13_up (by first | assumption | exact zq_i _ | exact zand_i _ _ | exact zor_i _ _ | exact zN _ | omega) (by first | assumption | exact zq_i _ | exact zand_i _ _ | exact zor_i _ _ | exact zN _ | omega) (by first | assumption | exact zq_i _ | exact zand_i _ _ | exact zor_i _ _ | exact zN _ | omega) (by first | assumption | exact zq_i _ | exact zand_i _ _ | exact zor_i _ _ | exact zN _ | omega)) (by decide) (k' := 0) (n' := 0) (by omega) (by omega) (by simp only [List.map, zcI, zcJ, zcR, List.sum_cons, List.sum_nil]; decide) (zdk (v := some (zI (((2 * n) + k - 1) / k))) ?_) (fun _ _ _ _ h => h.elim)
    show zT G _ _ _ _ [zI (((2 * n) + k - 1) / k), zI 2] _ _ _ _ _ _
    refine zT.callS (M' := mX13_most) [zI 2, zI (((2 * n) + k - 1) / k)] [] dX13_alike_21 kX13_318 rfl rfl (C_X13_most (by first | assumption | exact zq_i _ | exact zand_i _ _ | exact zor_i _ _ | exact zN _ | omega) (by first | assumption | exact zq_i _ | exact zand_i _ _ | exact zor_i _ _ | exact zN _ | omega)) (by decide) (k' := 0) (n' := 0) (by omega) (by omega) (by decide) (zdk (v := some (zI (max 2 (((2 * n) + k - 1) / k)))) ?_) (fun _ _ _ _ h => h.elim)
    show zT G _ _ _ _ [zI (max 2 (((2 * n) + k - 1) / k))] _ _ _ _ _ _
    refine zT.goto (tgt := 28) dX13_alike_24 (by decide) ?_
    refine zT.iret dX13_alike_28 rfl ?_
    rw [eQ9]
    first | exact ⟨by rw [if_pos (by omega)], rfl, by rw [em1]⟩ | exact ⟨by rw [if_neg (by omega)], rfl, by rw [em1]⟩

theorem C_X13_alikeAt {G : zG} {S : zS} {m : zMm} {b : Int} {A : zMm} (hb : zMod S b) (hA : yEq m b A) (hV : aVd A) {n k t p : Int} (hn : zi n) (hk1 : zi k) (ht : zi t) (hp : zi p) : zC G mX13_alikeAt 2 0 0 [zR b, zI n, zI k, zI t, zI p] S m (zDet (some (zI (if ((1 ≤ n ∧ n ≤ 4000) ∧ 1 ≤ k ∧ k ≤ 60) ∧ (0 ≤ p ∧ p ≤ k - 1) ∧ (0 ≤ t ∧ t ≤ max 2 ((2 * n + k - 1) / k) - 1) ∧ max 2 ((2 * n + k - 1) / k) * p + t < 2 * n then max 2 ((2 * n + k - 1) / k) * p + t else -1))) S (zup m b 1000 0)) zNX := by
  have ym := hA.R hV
  have nm := ym.n
  have sm := ym.s
  have rm := ym.r
  have hk := hV.ki.1
  have hk0 := hk.1
  have hp0 := hV.pl.1
  have hp1 := hV.pl.2.1
  refine zC.of [zR b, zI n, zI k, zI t, zI p, zU] (by decide) rfl (zEn1 (zcR _) (zEn1 (zcI _) (zEn1 (zcI _) (zEn1 (zcI _) (zEn1 (zcI _) (zEn0 (by simp))))))) rfl ?_
  refine zT.rng hb.a1014 (fun zN => ?_)
  obtain ⟨Q9, eQ9⟩ : ∃ z : zQt, z = (zDet (some (zI (if ((1 ≤ n ∧ n ≤ 4000) ∧ 1 ≤ k ∧ k ≤ 60) ∧ (0 ≤ p ∧ p ≤ k - 1) ∧ (0 ≤ t ∧ t ≤ max 2 ((2 * n + k - 1) / k) - 1) ∧ max 2 ((2 * n + k - 1) / k) * p + t < 2 * n then max 2 ((2 * n + k - 1) / k) * p + t else -1))) S (zup m b 1000 0)) := ⟨_, rfl⟩
  rw [← eQ9]
  refine zT.aload_n 0 dX13_alikeAt_0 rfl rfl ?_
  refine zT.iconst dX13_alikeAt_1 ?_
  refine zT.putI dX13_alikeAt_2 fX13_122 zs_1000 rfl (zMod.k hb) (j := 0) (by decide) rfl (by first | assumption | exact zq_i _ | exact zand_i _ _ | exact zor_i _ _ | exact zN _ | omega) ?_
  obtain ⟨m1, em1⟩ : ∃ z, z = zup m b 1000 0 := ⟨_, rfl⟩
  rw [← em1]
  have ym1 : yR m1 b A := by rw [em1]; exact ym.up (by omega)
  have nm1 := ym1.n
  have sm1 := ym1.s
  have rm1 := ym1.r
  refine zT.iload_n 1 dX13_alikeAt_5 rfl rfl ?_
  refine zT.iload_n 2 dX13_alikeAt_6 rfl rfl ?_
  refine zT.callS (M' := mX13_areAlike) [zI n, zI k] [] dX13_alikeAt_7 kX13_407 rfl rfl (C_X13_areAlike (by first | assumption | exact zq_i _ | exact zand_i _ _ | exact zor_i _ _ | exact zN _ | omega) (by first | assumption | exact zq_i _ | exact zand_i _ _ | exact zor_i _ _ | exact zN _ | omega)) (by decide) (k' := 0) (n' := 0) (by omega) (by omega) (by decide) (zdk (v := some (zI (zq ((1 ≤ n ∧ n ≤ 4000) ∧ 1 ≤ k ∧ k ≤ 60)))) ?_) (fun _ _ _ _ h => h.elim)
  show zT G _ _ _ _ [zI (zq ((1 ≤ n ∧ n ≤ 4000) ∧ 1 ≤ k ∧ k ≤ 60))] _ _ _ _ _ _
  refine zT.if_neB (tgt := 15) dX13_alikeAt_10 (by decide) (fun c10 => ?_) (fun c10 => ?_)
  · have hq : 0 ≤ (2 * n + k - 1) / k ∧ (2 * n + k - 1) / k ≤ 2 * n + k - 1 := ⟨Int.ediv_nonneg (by omega) (by omega), Int.ediv_le_self _ (by omega)⟩
    refine zT.iconst dX13_alikeAt_15 ?_
    refine zT.iconst dX13_alikeAt_16 ?_
    refine zT.iload_n 1 dX13_alikeAt_17 rfl rfl ?_
    refine zT.imul dX13_alikeAt_18 ?_
    refine zT.iload_n 2 dX13_alikeAt_19 rfl rfl ?_
    refine zT.callS (M' := mX13_up) [zI (2 * n), zI k] [zI 2] dX13_alikeAt_20 kX13_346 rfl rfl (C_X13_up (by first | assumption | exact zq_i _ | exact zand_i _ _ | exact zor_i _ _ | exact zN _ | omega) (by first | assumption | exact zq_i _ | exact zand_i _ _ | exact zor_i _ _ | exact zN _ | omega) (by first | assumption | exact zq_i _ | exact zand_i _ _ | exact zor_i _ _ | exact zN _ | omega) (by first | assumption | exact zq_i _ | exact zand_i _ _ | exact zor_i _ _ | exact zN _ | omega)) (by decide) (k' := 0) (n' := 0) (by omega) (by omega) (by simp only [List.map, zcI, zcJ, zcR, List.sum_cons, List.sum_nil]; decide) (zdk (v := some (zI (((2 * n) + k - 1) / k))) ?_) (fun _ _ _ _ h => h.elim)
    show zT G _ _ _ _ [zI (((2 * n) + k - 1) / k), zI 2] _ _ _ _ _ _
    refine zT.callS (M' := mX13_most) [zI 2, zI (((2 * n) + k - 1) / k)] [] dX13_alikeAt_23 kX13_318 rfl rfl (C_X13_most (by first | assumption | exact zq_i _ | exact zand_i _ _ | exact zor_i _ _ | exact zN _ | omega) (by first | assumption | exact zq_i _ | exact zand_i _ _ | exact zor_i _ _ | exact zN _ | omega)) (by decide) (k' := 0) (n' := 0) (by omega) (by omega) (by decide) (zdk (v := some (zI (max 2 (((2 * n) + k - 1) / k)))) ?_) (fun _ _ _ _ h => h.elim)
    show zT G _ _ _ _ [zI (max 2 (((2 * n) + k - 1) / k))] _ _ _ _ _ _
    refine zT.istore 5 dX13_alikeAt_26 (by decide) (zpre1 rfl (zcI _)) ?_
    show zT G _ _ _ [zR b, zI n, zI k, zI t, zI p, zI (max 2 (((2 * n) + k - 1) / k))] _ _ _ _ _ _ _
    refine zT.iload_n 3 dX13_alikeAt_28 rfl rfl ?_
    refine zT.iconst dX13_alikeAt_29 ?_
    refine zT.iload 5 dX13_alikeAt_30 rfl ?_
    refine zT.iconst dX13_alikeAt_32 ?_
    refine zT.isub dX13_alikeAt_33 ?_
    refine zT.callS (M' := mX13_isIn) [zI t, zI 0, zI ((max 2 (((2 * n) + k - 1) / k)) - 1)] [] dX13_alikeAt_34 kX13_189 rfl rfl (C_X13_isIn (by first | assumption | exact zq_i _ | exact zand_i _ _ | exact zor_i _ _ | exact zN _ | omega) (by first | assumption | exact zq_i _ | exact zand_i _ _ | exact zor_i _ _ | exact zN _ | omega) (by first | assumption | exact zq_i _ | exact zand_i _ _ | exact zor_i _ _ | exact zN _ | omega)) (by decide) (k' := 0) (n' := 0) (by omega) (by omega) (by decide) (zdk (v := some (zI (zq (0 ≤ t ∧ t ≤ ((max 2 (((2 * n) + k - 1) / k)) - 1))))) ?_) (fun _ _ _ _ h => h.elim)
    show zT G _ _ _ _ [zI (zq (0 ≤ t ∧ t ≤ ((max 2 (((2 * n) + k - 1) / k)) - 1)))] _ _ _ _ _ _
    refine zT.if_eqB (tgt := 52) dX13_alikeAt_37 (by decide) (fun c37 => ?_) (fun c37 => ?_)
    · refine zT.iconst dX13_alikeAt_52 ?_
      refine zT.iret dX13_alikeAt_53 rfl ?_
      rw [eQ9]
      refine ⟨?_, rfl, by rw [em1]⟩
      first
        | (rw [if_pos (by omega)]; done)
        | rw [if_neg (by omega)]
    · refine zT.iload 4 dX13_alikeAt_40 rfl ?_
      refine zT.iconst dX13_alikeAt_42 ?_
      refine zT.iload_n 2 dX13_alikeAt_43 rfl rfl ?_
      refine zT.iconst dX13_alikeAt_44 ?_
      refine zT.isub dX13_alikeAt_45 ?_
      refine zT.callS (M' := mX13_isIn) [zI p, zI 0, zI (k - 1)] [] dX13_alikeAt_46 kX13_189 rfl rfl (C_X13_isIn (by first | assumption | exact zq_i _ | exact zand_i _ _ | exact zor_i _ _ | exact zN _ | omega) (by first | assumption | exact zq_i _ | exact zand_i _ _ | exact zor_i _ _ | exact zN _ | omega) (by first | assumption | exact zq_i _ | exact zand_i _ _ | exact zor_i _ _ | exact zN _ | omega)) (by decide) (k' := 0) (n' := 0) (by omega) (by omega) (by decide) (zdk (v := some (zI (zq (0 ≤ p ∧ p ≤ (k - 1))))) ?_) (fun _ _ _ _ h => h.elim)
      show zT G _ _ _ _ [zI (zq (0 ≤ p ∧ p ≤ (k - 1)))] _ _ _ _ _ _
      refine zT.if_neB (tgt := 54) dX13_alikeAt_49 (by decide) (fun c49 => ?_) (fun c49 => ?_)
      · have hzm := zmulb (a := max 2 ((2 * n + k - 1) / k)) (A := 8059) (b := p) (B := 60) (by omega) (by omega) (by omega) (by omega)
        refine zT.iload 5 dX13_alikeAt_54 rfl ?_
        refine zT.iload 4 dX13_alikeAt_56 rfl ?_
        refine zT.imul dX13_alikeAt_58 ?_
        refine zT.iload_n 3 dX13_alikeAt_59 rfl rfl ?_
        refine zT.iadd dX13_alikeAt_60 ?_
        refine zT.iconst dX13_alikeAt_61 ?_
        refine zT.iload_n 1 dX13_alikeAt_62 rfl rfl ?_
        refine zT.imul dX13_alikeAt_63 ?_
        refine zT.ic_ge (tgt := 77) dX13_alikeAt_64 (by decide) (by first | assumption | exact zq_i _ | exact zand_i _ _ | exact zor_i _ _ | exact zN _ | omega) (by first | assumption | exact zq_i _ | exact zand_i _ _ | exact zor_i _ _ | exact zN _ | omega) (fun c64 => ?_) (fun c64 => ?_)
        · refine zT.iconst dX13_alikeAt_77 ?_
          refine zT.iret dX13_alikeAt_78 rfl ?_
          rw [eQ9]
          refine ⟨?_, rfl, by rw [em1]⟩
          first
            | (rw [if_pos (by omega)]; done)
            | rw [if_neg (by omega)]
        · refine zT.iload 5 dX13_alikeAt_67 rfl ?_
          refine zT.iload 4 dX13_alikeAt_69 rfl ?_
          refine zT.imul dX13_alikeAt_71 ?_
          refine zT.iload_n 3 dX13_alikeAt_72 rfl rfl ?_
          refine zT.iadd dX13_alikeAt_73 ?_
          refine zT.goto (tgt := 78) dX13_alikeAt_74 (by decide) ?_
          refine zT.iret dX13_alikeAt_78 rfl ?_
          rw [eQ9]
          refine ⟨?_, rfl, by rw [em1]⟩
          first
            | (rw [if_pos (by omega)]; done)
            | rw [if_neg (by omega)]
      · refine zT.iconst dX13_alikeAt_52 ?_
        refine zT.iret dX13_alikeAt_53 rfl ?_
        rw [eQ9]
        refine ⟨?_, rfl, by rw [em1]⟩
        first
          | (rw [if_pos (by omega)]; done)
          | rw [if_neg (by omega)]
  · refine zT.iconst dX13_alikeAt_13 ?_
    refine zT.iret dX13_alikeAt_14 rfl ?_
    rw [eQ9]
    refine ⟨?_, rfl, by rw [em1]⟩
    first
      | (rw [if_pos (by omega)]; done)
      | rw [if_neg (by omega)]

theorem C_X13_placesFor {G : zG} {S : zS} {m : zMm} {n u a : Int} (hn : 1 ≤ n ∧ n ≤ 4000) (hu : 1 ≤ u ∧ u ≤ 20) (ha : 1 ≤ a ∧ a ≤ 999) : zC G mX13_placesFor 1 0 0 [zI n, zI u, zI a] S m (zDet (some (zI (if 2 ≤ a / u then (2 * n + a / u - 1) / (a / u) else -1))) S m) zNX := by
  have hdb : 0 ≤ a / u ∧ a / u ≤ 999 := ⟨Int.ediv_nonneg (by omega) (by omega), by have := Int.ediv_le_self (b := u) (show 0 ≤ a by omega); omega⟩
  refine zC.of [zI n, zI u, zI a, zU] (by decide) rfl (zEn1 (zcI _) (zEn1 (zcI _) (zEn1 (zcI _) (zEn0 (by simp))))) rfl ?_
  refine zT.iload_n 2 dX13_placesFor_0 rfl rfl ?_
  refine zT.iload_n 1 dX13_placesFor_1 rfl rfl ?_
  refine zT.idiv dX13_placesFor_2 (by first | assumption | exact zq_i _ | exact zand_i _ _ | exact zor_i _ _ | exact zN _ | omega) (by first | assumption | exact zq_i _ | exact zand_i _ _ | exact zor_i _ _ | exact zN _ | omega) (by first | assumption | exact zq_i _ | exact zand_i _ _ | exact zor_i _ _ | exact zN _ | omega) (by first | assumption | exact zq_i _ | exact zand_i _ _ | exact zor_i _ _ | exact zN _ | omega) ?_
  refine zT.istore_n 3 dX13_placesFor_3 rfl (by decide) (zpre1 rfl (zcI _)) ?_
  show zT G _ _ _ [zI n, zI u, zI a, zI (a / u)] _ _ _ _ _ _ _
  refine zT.iload_n 3 dX13_placesFor_4 rfl rfl ?_
  refine zT.iconst dX13_placesFor_5 ?_
  refine zT.ic_ge (tgt := 13) dX13_placesFor_6 (by decide) (by first | assumption | exact zq_i _ | exact zand_i _ _ | exact zor_i _ _ | exact zN _ | omega) (by first | assumption | exact zq_i _ | exact zand_i _ _ | exact zor_i _ _ | exact zN _ | omega) (fun c6 => ?_) (fun c6 => ?_)
  · refine zT.iconst dX13_placesFor_13 ?_
    refine zT.iload_n 0 dX13_placesFor_14 rfl rfl ?_
    refine zT.imul dX13_placesFor_15 ?_
    refine zT.iload_n 3 dX13_placesFor_16 rfl rfl ?_
    refine zT.callS (M' := mX13_up) [zI (2 * n), zI (a / u)] [] dX13_placesFor_17 kX13_346 rfl rfl (C_X13_up (by first | assumption | exact zq_i _ | exact zand_i _ _ | exact zor_i _ _ | exact zN _ | omega) (by first | assumption | exact zq_i _ | exact zand_i _ _ | exact zor_i _ _ | exact zN _ | omega) (by first | assumption | exact zq_i _ | exact zand_i _ _ | exact zor_i _ _ | exact zN _ | omega) (by first | assumption | exact zq_i _ | exact zand_i _ _ | exact zor_i _ _ | exact zN _ | omega)) (by decide) (k' := 0) (n' := 0) (by omega) (by omega) (by decide) (zdk (v := some (zI (((2 * n) + (a / u) - 1) / (a / u)))) ?_) (fun _ _ _ _ h => h.elim)
    show zT G _ _ _ _ [zI (((2 * n) + (a / u) - 1) / (a / u))] _ _ _ _ _ _
    refine zT.iret dX13_placesFor_20 rfl ?_
    first | exact ⟨by rw [if_pos (by omega)], rfl, rfl⟩ | exact ⟨by rw [if_neg (by omega)], rfl, rfl⟩
  · refine zT.iconst dX13_placesFor_9 ?_
    refine zT.goto (tgt := 20) dX13_placesFor_10 (by decide) ?_
    refine zT.iret dX13_placesFor_20 rfl ?_
    first | exact ⟨by rw [if_pos (by omega)], rfl, rfl⟩ | exact ⟨by rw [if_neg (by omega)], rfl, rfl⟩

theorem C_X13_fewest {G : zG} {S : zS} {m : zMm} {b : Int} {A : zMm} (hb : zMod S b) (hA : yEq m b A) (hV : aVd A) {n u a : Int} (hn : zi n) (hu : zi u) (ha : zi a) : zC G mX13_fewest 2 0 0 [zR b, zI n, zI u, zI a] S m (zDet (some (zI (if (1 ≤ n ∧ n ≤ 4000) ∧ (1 ≤ u ∧ u ≤ 20) ∧ (1 ≤ a ∧ a ≤ 999) ∧ 2 ≤ a / u then (2 * n + a / u - 1) / (a / u) else -1))) S (zup m b 1000 0)) zNX := by
  have ym := hA.R hV
  have nm := ym.n
  have sm := ym.s
  have rm := ym.r
  have hk := hV.ki.1
  have hk0 := hk.1
  have hp0 := hV.pl.1
  have hp1 := hV.pl.2.1
  refine zC.of [zR b, zI n, zI u, zI a] (by decide) rfl (zEn1 (zcR _) (zEn1 (zcI _) (zEn1 (zcI _) (zEn1 (zcI _) (zEn0 (by simp)))))) rfl ?_
  refine zT.rng hb.a1014 (fun zN => ?_)
  obtain ⟨Q9, eQ9⟩ : ∃ z : zQt, z = (zDet (some (zI (if (1 ≤ n ∧ n ≤ 4000) ∧ (1 ≤ u ∧ u ≤ 20) ∧ (1 ≤ a ∧ a ≤ 999) ∧ 2 ≤ a / u then (2 * n + a / u - 1) / (a / u) else -1))) S (zup m b 1000 0)) := ⟨_, rfl⟩
  rw [← eQ9]
  refine zT.aload_n 0 dX13_fewest_0 rfl rfl ?_
  refine zT.iconst dX13_fewest_1 ?_
  refine zT.putI dX13_fewest_2 fX13_122 zs_1000 rfl (zMod.k hb) (j := 0) (by decide) rfl (by first | assumption | exact zq_i _ | exact zand_i _ _ | exact zor_i _ _ | exact zN _ | omega) ?_
  obtain ⟨m1, em1⟩ : ∃ z, z = zup m b 1000 0 := ⟨_, rfl⟩
  rw [← em1]
  have ym1 : yR m1 b A := by rw [em1]; exact ym.up (by omega)
  have nm1 := ym1.n
  have sm1 := ym1.s
  have rm1 := ym1.r
  refine zT.iload_n 1 dX13_fewest_5 rfl rfl ?_
  refine zT.iconst dX13_fewest_6 ?_
  refine zT.sipush dX13_fewest_7 ?_
  refine zT.callS (M' := mX13_isIn) [zI n, zI 1, zI 4000] [] dX13_fewest_10 kX13_189 rfl rfl (C_X13_isIn (by first | assumption | exact zq_i _ | exact zand_i _ _ | exact zor_i _ _ | exact zN _ | omega) (by first | assumption | exact zq_i _ | exact zand_i _ _ | exact zor_i _ _ | exact zN _ | omega) (by first | assumption | exact zq_i _ | exact zand_i _ _ | exact zor_i _ _ | exact zN _ | omega)) (by decide) (k' := 0) (n' := 0) (by omega) (by omega) (by decide) (zdk (v := some (zI (zq (1 ≤ n ∧ n ≤ 4000)))) ?_) (fun _ _ _ _ h => h.elim)
  show zT G _ _ _ _ [zI (zq (1 ≤ n ∧ n ≤ 4000))] _ _ _ _ _ _
  refine zT.if_eqB (tgt := 46) dX13_fewest_13 (by decide) (fun c13 => ?_) (fun c13 => ?_)
  · refine zT.iconst dX13_fewest_46 ?_
    refine zT.iret dX13_fewest_47 rfl ?_
    rw [eQ9]
    refine ⟨?_, rfl, by rw [em1]⟩
    first
      | (rw [if_neg (by omega)]; done)
      | (congr 2; by_cases e9 : 2 ≤ a / u
         · rw [if_pos e9, if_pos (by omega)]
         · rw [if_neg e9, if_neg (by omega)])
  · refine zT.iload_n 2 dX13_fewest_16 rfl rfl ?_
    refine zT.iconst dX13_fewest_17 ?_
    refine zT.bipush dX13_fewest_18 ?_
    refine zT.callS (M' := mX13_isIn) [zI u, zI 1, zI 20] [] dX13_fewest_20 kX13_189 rfl rfl (C_X13_isIn (by first | assumption | exact zq_i _ | exact zand_i _ _ | exact zor_i _ _ | exact zN _ | omega) (by first | assumption | exact zq_i _ | exact zand_i _ _ | exact zor_i _ _ | exact zN _ | omega) (by first | assumption | exact zq_i _ | exact zand_i _ _ | exact zor_i _ _ | exact zN _ | omega)) (by decide) (k' := 0) (n' := 0) (by omega) (by omega) (by decide) (zdk (v := some (zI (zq (1 ≤ u ∧ u ≤ 20)))) ?_) (fun _ _ _ _ h => h.elim)
    show zT G _ _ _ _ [zI (zq (1 ≤ u ∧ u ≤ 20))] _ _ _ _ _ _
    refine zT.if_eqB (tgt := 46) dX13_fewest_23 (by decide) (fun c23 => ?_) (fun c23 => ?_)
    · refine zT.iconst dX13_fewest_46 ?_
      refine zT.iret dX13_fewest_47 rfl ?_
      rw [eQ9]
      refine ⟨?_, rfl, by rw [em1]⟩
      first
        | (rw [if_neg (by omega)]; done)
        | (congr 2; by_cases e9 : 2 ≤ a / u
           · rw [if_pos e9, if_pos (by omega)]
           · rw [if_neg e9, if_neg (by omega)])
    · refine zT.iload_n 3 dX13_fewest_26 rfl rfl ?_
      refine zT.iconst dX13_fewest_27 ?_
      refine zT.sipush dX13_fewest_28 ?_
      refine zT.callS (M' := mX13_isIn) [zI a, zI 1, zI 999] [] dX13_fewest_31 kX13_189 rfl rfl (C_X13_isIn (by first | assumption | exact zq_i _ | exact zand_i _ _ | exact zor_i _ _ | exact zN _ | omega) (by first | assumption | exact zq_i _ | exact zand_i _ _ | exact zor_i _ _ | exact zN _ | omega) (by first | assumption | exact zq_i _ | exact zand_i _ _ | exact zor_i _ _ | exact zN _ | omega)) (by decide) (k' := 0) (n' := 0) (by omega) (by omega) (by decide) (zdk (v := some (zI (zq (1 ≤ a ∧ a ≤ 999)))) ?_) (fun _ _ _ _ h => h.elim)
      show zT G _ _ _ _ [zI (zq (1 ≤ a ∧ a ≤ 999))] _ _ _ _ _ _
      refine zT.if_eqB (tgt := 46) dX13_fewest_34 (by decide) (fun c34 => ?_) (fun c34 => ?_)
      · refine zT.iconst dX13_fewest_46 ?_
        refine zT.iret dX13_fewest_47 rfl ?_
        rw [eQ9]
        refine ⟨?_, rfl, by rw [em1]⟩
        first
          | (rw [if_neg (by omega)]; done)
          | (congr 2; by_cases e9 : 2 ≤ a / u
             · rw [if_pos e9, if_pos (by omega)]
             · rw [if_neg e9, if_neg (by omega)])
      · refine zT.iload_n 1 dX13_fewest_37 rfl rfl ?_
        refine zT.iload_n 2 dX13_fewest_38 rfl rfl ?_
        refine zT.iload_n 3 dX13_fewest_39 rfl rfl ?_
        refine zT.callS (M' := mX13_placesFor) [zI n, zI u, zI a] [] dX13_fewest_40 kX13_404 rfl rfl (C_X13_placesFor (by omega) (by omega) (by omega)) (by decide) (k' := 0) (n' := 0) (by omega) (by omega) (by decide) (zdk (v := some (zI (if 2 ≤ a / u then (2 * n + a / u - 1) / (a / u) else -1))) ?_) (fun _ _ _ _ h => h.elim)
        show zT G _ _ _ _ [zI (if 2 ≤ a / u then (2 * n + a / u - 1) / (a / u) else -1)] _ _ _ _ _ _
        refine zT.goto (tgt := 47) dX13_fewest_43 (by decide) ?_
        refine zT.iret dX13_fewest_47 rfl ?_
        rw [eQ9]
        refine ⟨?_, rfl, by rw [em1]⟩
        first
          | (rw [if_neg (by omega)]; done)
          | (congr 2; by_cases e9 : 2 ≤ a / u
             · rw [if_pos e9, if_pos (by omega)]
             · rw [if_neg e9, if_neg (by omega)])

theorem C_X13_judge {G : zG} {S : zS} {m : zMm} {b : Int} {A : zMm} (hb : zMod S b) (hA : yEq m b A) (hV : aVd A)  : zC G mX13_judge 4 0 0 [zR b] S m (zDet (some (zI (fJud (aK (A 0 1023) (A 2)) (A 2 58) (aGo (A 2) 58)))) S (zup (ylaid (zup m b 1000 0) b) b 1026 (fJw (aK (A 0 1023) (A 2)) (A 2 58) (aGo (A 2) 58)))) zNX := by
  have ym := hA.R hV
  have nm := ym.n
  have sm := ym.s
  have rm := ym.r
  have hk := hV.ki.1
  have hk0 := hk.1
  have hp0 := hV.pl.1
  have hp1 := hV.pl.2.1
  refine zC.of [zR b, zU] (by decide) rfl (zEn1 (zcR _) (zEn0 (by simp))) rfl ?_
  refine zT.rng hb.a1014 (fun zN => ?_)
  obtain ⟨Q9, eQ9⟩ : ∃ z : zQt, z = (zDet (some (zI (fJud (aK (A 0 1023) (A 2)) (A 2 58) (aGo (A 2) 58)))) S (zup (ylaid (zup m b 1000 0) b) b 1026 (fJw (aK (A 0 1023) (A 2)) (A 2 58) (aGo (A 2) 58)))) := ⟨_, rfl⟩
  rw [← eQ9]
  refine zT.aload_n 0 dX13_judge_0 rfl rfl ?_
  refine zT.iconst dX13_judge_1 ?_
  refine zT.putI dX13_judge_2 fX13_122 zs_1000 rfl (zMod.k hb) (j := 0) (by decide) rfl (by first | assumption | exact zq_i _ | exact zand_i _ _ | exact zor_i _ _ | exact zN _ | omega) ?_
  obtain ⟨m1, em1⟩ : ∃ z, z = zup m b 1000 0 := ⟨_, rfl⟩
  rw [← em1]
  have ym1 : yR m1 b A := by rw [em1]; exact ym.up (by omega)
  have nm1 := ym1.n
  have sm1 := ym1.s
  have rm1 := ym1.r
  refine zT.aload_n 0 dX13_judge_5 rfl rfl ?_
  refine zT.callV (M' := mX13_lay) (b := b) [] [] dX13_judge_6 kX13_202 rfl rfl (ci := 10) (r := (RX13, TX13, 62)) rfl (zMod.k hb) (C_X13_lay hb) (by decide) (k' := 0) (n' := 0) (by omega) (by omega) (by decide) (zdk (v := none) ?_) (fun _ _ _ _ h => h.elim)
  show zT G _ _ _ _ [] _ _ _ _ _ _
  obtain ⟨m2, em2⟩ : ∃ z, z = ylaid m1 b := ⟨_, rfl⟩
  rw [← em2]
  have ym2 : yL m2 b A := by rw [em2]; exact hA.L2 hV (fun j => by rw [em1, zup_ne (by omega)]) (by rw [em1, zup_ne (by omega)])
  have nm2 := ym2.1.n
  have sm2 := ym2.1.s
  have rm2 := ym2.1.r
  refine zT.aload_n 0 dX13_judge_9 rfl rfl ?_
  refine zT.iconst dX13_judge_10 ?_
  refine zT.putI dX13_judge_11 fX13_42 zs_1026 rfl (zMod.k hb) (j := 26) (by decide) rfl (by first | assumption | exact zq_i _ | exact zand_i _ _ | exact zor_i _ _ | exact zN _ | omega) ?_
  obtain ⟨m3, em3⟩ : ∃ z, z = zup m2 b 1026 0 := ⟨_, rfl⟩
  rw [← em3]
  have ym3 : yL m3 b A := by rw [em3]; exact ym2.up (by omega)
  have nm3 := ym3.1.n
  have sm3 := ym3.1.s
  have rm3 := ym3.1.r
  refine zT.iconst dX13_judge_14 ?_
  refine zT.istore_n 1 dX13_judge_15 rfl (by decide) (zpre1 rfl (zcR _)) ?_
  show zT G _ _ _ [zR b, zI 0] _ _ _ _ _ _ _
  have L16 : ∀ (N : Nat) (k : Int), (0 ≤ k) → (k ≤ (A 2 58)) → (∀ j, 0 ≤ j → j < k → ¬ (0 < aWhy (aK (A 0 1023) (A 2)) (aGo (A 2) 58) j ((aGo (A 2) 58) j 2))) → (((A 2 58) - k).toNat) < N → zT G mX13_judge 4 16 [zR b, zI k] [] S (zup m2 b 1026 0) 0 0 Q9 zNX := by
    intro N
    induction N with
    | zero => intro k k0 k1 hv hN; exact absurd hN (Nat.not_lt_zero _)
    | succ N ih16 =>
      intro k k0 k1 hv hN
      obtain ⟨m4, em4⟩ : ∃ z, z = zup m2 b 1026 0 := ⟨_, rfl⟩
      rw [← em4]
      refine zT.iload_n 1 dX13_judge_16 rfl rfl ?_
      have y9 : yL m4 b A := by rw [em4]; exact ym2.up (by omega)
      have n9 := y9.1.n
      refine zT.aload_n 0 dX13_judge_17 rfl rfl ?_
      refine zT.callV (M' := mX13_goes) (b := b) [] [zI k] dX13_judge_18 kX13_284 rfl rfl (ci := 10) (r := (RX13, TX13, 62)) rfl (zMod.k hb) (C_X13_goes hb) (by decide) (k' := 0) (n' := 0) (by omega) (by omega) (by simp only [List.map, zcI, zcJ, zcR, List.sum_cons, List.sum_nil]; decide) (zdk (v := some (zI (m4 (b + 2) (58)))) ?_) (fun _ _ _ _ h => h.elim)
      show zT G _ _ _ _ [zI (m4 (b + 2) (58)), zI k] _ _ _ _ _ _
      refine zT.ic_ge (tgt := 53) dX13_judge_21 (by decide) (by first | assumption | exact zq_i _ | exact zand_i _ _ | exact zor_i _ _ | exact zN _ | omega) (by first | assumption | exact zq_i _ | exact zand_i _ _ | exact zor_i _ _ | exact zN _ | omega) (fun c21 => ?_) (fun c21 => ?_)
      · refine zT.iconst dX13_judge_53 ?_
        refine zT.iret dX13_judge_54 rfl ?_
        rw [eQ9]
        have hj : fJud (aK (A 0 1023) (A 2)) (A 2 58) (aGo (A 2) 58) = -1 := by
          unfold fJud
          exact zfi_f (fun j a b => hv j a (by omega))
        have hw9 : fJw (aK (A 0 1023) (A 2)) (A 2 58) (aGo (A 2) 58) = 0 := by
          unfold fJw
          rw [hj, if_pos rfl]
        refine ⟨by rw [hj], rfl, ?_⟩
        rw [hw9, em4, em2, em1]
      · have hg9 := y9.1.g
        have hK9 := y9.2
        have hwb := aWhy_b (K := aK (A 0 1023) (A 2)) (g := aGo (A 2) 58) (k := k) (t := aGo (A 2) 58 k 2)
        have gv9 := hV.pl.2.2 k (by omega) (by omega)
        have gf9 := y9.1.g.2 k 2 (by omega) (by omega) (by omega) (by omega)
        refine zT.aload_n 0 dX13_judge_24 rfl rfl ?_
        refine zT.aload_n 0 dX13_judge_25 rfl rfl ?_
        refine zT.iload_n 1 dX13_judge_26 rfl rfl ?_
        refine zT.aload_n 0 dX13_judge_27 rfl rfl ?_
        refine zT.iload_n 1 dX13_judge_28 rfl rfl ?_
        refine zT.callV (M' := mX13_from) (b := b) [zI k] [zI k, zR b, zR b] dX13_judge_29 kX13_297 rfl rfl (ci := 10) (r := (RX13, TX13, 62)) rfl (zMod.k hb) (C_X13_from hb (by first | assumption | exact zq_i _ | exact zand_i _ _ | exact zor_i _ _ | exact zN _ | omega)) (by decide) (k' := 0) (n' := 0) (by omega) (by omega) (by simp only [List.map, zcI, zcJ, zcR, List.sum_cons, List.sum_nil]; decide) (zdk (v := some (zI (m4 (b + 2) (59 + 5 * k + 2)))) ?_) (fun _ _ _ _ h => h.elim)
        show zT G _ _ _ _ [zI (m4 (b + 2) (59 + 5 * k + 2)), zI k, zR b, zR b] _ _ _ _ _ _
        rw [gf9]
        refine zT.callV (M' := mX13_wrong) (b := b) [zI k, zI ((aGo (A 2) 58) k 2)] [zR b] dX13_judge_32 kX13_312 rfl rfl (ci := 10) (r := (RX13, TX13, 62)) rfl (zMod.k hb) (C_X13_wrong hb (n := A 2 58) (g := aGo (A 2) 58) hg9 hV.pl (K := aK (A 0 1023) (A 2)) hK9 hk (show 0 ≤ k by omega) (show k < A 2 58 by omega) (by omega) (by omega)) (by decide) (k' := 0) (n' := 0) (by omega) (by omega) (by simp only [List.map, zcI, zcJ, zcR, List.sum_cons, List.sum_nil]; decide) (zdk (v := some (zI (aWhy (aK (A 0 1023) (A 2)) (aGo (A 2) 58) k ((aGo (A 2) 58) k 2)))) ?_) (fun _ _ _ _ h => h.elim)
        show zT G _ _ _ _ [zI (aWhy (aK (A 0 1023) (A 2)) (aGo (A 2) 58) k ((aGo (A 2) 58) k 2)), zR b] _ _ _ _ _ _
        refine zT.putI dX13_judge_35 fX13_42 zs_1026 rfl (zMod.k hb) (j := 26) (by decide) rfl (by first | assumption | exact zq_i _ | exact zand_i _ _ | exact zor_i _ _ | exact zN _ | omega) ?_
        obtain ⟨m5, em5⟩ : ∃ z, z = zup m4 b 1026 (aWhy (aK (A 0 1023) (A 2)) (aGo (A 2) 58) k ((aGo (A 2) 58) k 2)) := ⟨_, rfl⟩
        rw [← em5]
        refine zT.aload_n 0 dX13_judge_38 rfl rfl ?_
        refine zT.getI dX13_judge_39 fX13_42 rfl (zMod.k hb) (j := 26) (by decide) rfl (fun z39 => ?_)
        have r39 : m5 b 1026 = aWhy (aK (A 0 1023) (A 2)) (aGo (A 2) 58) k ((aGo (A 2) 58) k 2) := by rw [em5, zup_at]
        rw [r39] at z39 ⊢
        refine zT.if_le (tgt := 47) dX13_judge_42 (by decide) (by first | assumption | exact zq_i _ | exact zand_i _ _ | exact zor_i _ _ | exact zN _ | omega) (fun c42 => ?_) (fun c42 => ?_)
        · refine zT.iinc 1 dX13_judge_47 rfl (by decide) (zpre1 rfl (zcR _)) ?_
          show zT G _ _ _ [zR b, zI (k + 1)] _ _ _ _ _ _ _
          refine zT.goto (tgt := 16) dX13_judge_50 (by decide) ?_
          have eb16 : m5 = zup m2 b 1026 0 := by
            rw [em5, em4, zup_zup, show aWhy (aK (A 0 1023) (A 2)) (aGo (A 2) 58) k (aGo (A 2) 58 k 2) = 0 by omega]
          refine zT.meq eb16 ?_
          exact ih16 _ (by first | assumption | exact zq_i _ | exact zand_i _ _ | exact zor_i _ _ | exact zN _ | omega) (by first | assumption | exact zq_i _ | exact zand_i _ _ | exact zor_i _ _ | exact zN _ | omega) (by exact zal_s hv (by omega)) (by omega)
        · refine zT.iload_n 1 dX13_judge_45 rfl rfl ?_
          refine zT.iret dX13_judge_46 rfl ?_
          rw [eQ9]
          have hj : fJud (aK (A 0 1023) (A 2)) (A 2 58) (aGo (A 2) 58) = k := by
            unfold fJud
            exact zfi_t hv (by omega) (by omega) (by omega)
          have hw9 : fJw (aK (A 0 1023) (A 2)) (A 2 58) (aGo (A 2) 58) = aWhy (aK (A 0 1023) (A 2)) (aGo (A 2) 58) k (aGo (A 2) 58 k 2) := by
            unfold fJw
            rw [hj, if_neg (by omega)]
          refine ⟨by rw [hj], rfl, ?_⟩
          rw [hw9, em5, em4, zup_zup, em2, em1]
  have eb16 : m3 = zup m2 b 1026 0 := by
    rw [em3]
  refine zT.meq eb16 ?_
  exact L16 _ _ (by first | assumption | exact zq_i _ | exact zand_i _ _ | exact zor_i _ _ | exact zN _ | omega) (by first | assumption | exact zq_i _ | exact zand_i _ _ | exact zor_i _ _ | exact zN _ | omega) (by exact zal_0) (Nat.lt_succ_self _)

