/-! PanSlicesModel: drop, later, undo (written by gen/m_mod5.py) -/
def yDrop (m : zMm) (b k : Int) : zMm := zup (zfl m (b + 2) (59 + 5 * k) (54 + 5 * m (b + 2) 58) (fun j => m (b + 2) (j + 5))) (b + 2) 58 (m (b + 2) 58 - 1)
theorem yEq.drop {m : zMm} {b k : Int} {A : zMm} (h : yEq m b A) : yEq (yDrop m b k) b (uDrop A k) := by
  unfold yDrop uDrop
  rw [h 2 58 (by omega) (by omega)]
  exact (h.fl (by omega) (fun j _ _ => h 2 _ (by omega) (by omega))).up (by omega)
def yMove (m : zMm) (b k f : Int) : zMm := zup m (b + 2) (59 + 5 * k + 2) f
theorem yEq.move {m : zMm} {b k f : Int} {A : zMm} (h : yEq m b A) : yEq (yMove m b k f) b (uMove A k f) := h.up (by omega)
theorem C_X13_drop {G : zG} {S : zS} {m : zMm} {b : Int} {A : zMm} (hb : zMod S b) (hA : yEq m b A) (hV : aVd A) {k : Int} (hk : zi k) : zC G mX13_drop 2 0 0 [zR b, zI k] S m (zDet (some (zI (if 0 ≤ k ∧ k < A 2 58 then 1 else 0))) S (if 0 ≤ k ∧ k < A 2 58 then yDrop (ysnap (zup m b 1000 0) b) b k else zup m b 1000 0)) zNX := by
  have ym := hA.R hV
  have nm := ym.n
  have sm := ym.s
  have rm := ym.r
  have hk := hV.ki.1
  have hk0 := hk.1
  have hp0 := hV.pl.1
  have hp1 := hV.pl.2.1
  have hsn := hA.at (j := 1022)
  have hsv := hV.un.1
  refine zC.of [zR b, zI k, zU] (by decide) rfl (zEn1 (zcR _) (zEn1 (zcI _) (zEn0 (by simp)))) rfl ?_
  refine zT.rng hb.a1014 (fun zN => ?_)
  obtain ⟨Q9, eQ9⟩ : ∃ z : zQt, z = (zDet (some (zI (if 0 ≤ k ∧ k < A 2 58 then 1 else 0))) S (if 0 ≤ k ∧ k < A 2 58 then yDrop (ysnap (zup m b 1000 0) b) b k else zup m b 1000 0)) := ⟨_, rfl⟩
  rw [← eQ9]
  refine zT.aload_n 0 dX13_drop_0 rfl rfl ?_
  refine zT.iconst dX13_drop_1 ?_
  refine zT.putI dX13_drop_2 fX13_122 zs_1000 rfl (zMod.k hb) (j := 0) (by decide) rfl (by first | assumption | exact zq_i _ | exact zand_i _ _ | exact zor_i _ _ | exact zN _ | omega) ?_
  obtain ⟨m1, em1⟩ : ∃ z, z = zup m b 1000 0 := ⟨_, rfl⟩
  rw [← em1]
  have ym1 : yR m1 b A := by rw [em1]; exact ym.up (by omega)
  have nm1 := ym1.n
  have sm1 := ym1.s
  have rm1 := ym1.r
  refine zT.iload_n 1 dX13_drop_5 rfl rfl ?_
  refine zT.if_lt (tgt := 17) dX13_drop_6 (by decide) (by first | assumption | exact zq_i _ | exact zand_i _ _ | exact zor_i _ _ | exact zN _ | omega) (fun c6 => ?_) (fun c6 => ?_)
  · refine zT.iconst dX13_drop_17 ?_
    refine zT.zret dX13_drop_18 rfl (by omega) ?_
    rw [eQ9]
    rw [if_neg (by omega), if_neg (by omega)]
    exact ⟨rfl, rfl, by rw [em1]⟩
  · refine zT.iload_n 1 dX13_drop_9 rfl rfl ?_
    refine zT.aload_n 0 dX13_drop_10 rfl rfl ?_
    refine zT.callV (M' := mX13_goes) (b := b) [] [zI k] dX13_drop_11 kX13_284 rfl rfl (ci := 10) (r := (RX13, TX13, 62)) rfl (zMod.k hb) (C_X13_goes hb) (by decide) (k' := 0) (n' := 0) (by omega) (by omega) (by simp only [List.map, zcI, zcJ, zcR, List.sum_cons, List.sum_nil]; decide) (zdk (v := some (zI (m1 (b + 2) (58)))) ?_) (fun _ _ _ _ h => h.elim)
    show zT G _ _ _ _ [zI (m1 (b + 2) (58)), zI k] _ _ _ _ _ _
    refine zT.ic_lt (tgt := 19) dX13_drop_14 (by decide) (by first | assumption | exact zq_i _ | exact zand_i _ _ | exact zor_i _ _ | exact zN _ | omega) (by first | assumption | exact zq_i _ | exact zand_i _ _ | exact zor_i _ _ | exact zN _ | omega) (fun c14 => ?_) (fun c14 => ?_)
    · refine zT.aload_n 0 dX13_drop_19 rfl rfl ?_
      refine zT.callV (M' := mX13_snap) (b := b) [] [] dX13_drop_20 kX13_290 rfl rfl (ci := 10) (r := (RX13, TX13, 62)) rfl (zMod.k hb) (C_X13_snap hb (by rw [em1, zup_ne (by omega)]; omega) (by rw [em1, zup_ne (by omega)]; omega)) (by decide) (k' := 0) (n' := 0) (by omega) (by omega) (by decide) (zdk (v := none) ?_) (fun _ _ _ _ h => h.elim)
      show zT G _ _ _ _ [] _ _ _ _ _ _
      obtain ⟨m2, em2⟩ : ∃ z, z = ysnap m1 b := ⟨_, rfl⟩
      rw [← em2]
      have ym2 : yR m2 b A := ym1.row (fun j => by rw [em2]; exact ysnap_2)
      have nm2 := ym2.n
      have sm2 := ym2.s
      have rm2 := ym2.r
      refine zT.iconst dX13_drop_23 ?_
      refine zT.iload_n 1 dX13_drop_24 rfl rfl ?_
      refine zT.imul dX13_drop_25 ?_
      refine zT.istore_n 2 dX13_drop_26 rfl (by decide) (zpre1 rfl (zcI _)) ?_
      show zT G _ _ _ [zR b, zI k, zI (5 * k)] _ _ _ _ _ _ _
      have L27 : ∀ (N : Nat) (i : Int), (5 * k ≤ i) → (i ≤ 5 * A 2 58 - 5) → ((5 * A 2 58 - 5 - i).toNat) < N → zT G mX13_drop 2 27 [zR b, zI k, zI i] [] S (zfl m2 (b + 2) (59 + 5 * k) (59 + i) (fun j => m2 (b + 2) (j + 5))) 0 0 Q9 zNX := by
        intro N
        induction N with
        | zero => intro i i0 i1 hN; exact absurd hN (Nat.not_lt_zero _)
        | succ N ih27 =>
          intro i i0 i1 hN
          obtain ⟨m3, em3⟩ : ∃ z, z = zfl m2 (b + 2) (59 + 5 * k) (59 + i) (fun j => m2 (b + 2) (j + 5)) := ⟨_, rfl⟩
          rw [← em3]
          refine zT.iload_n 2 dX13_drop_27 rfl rfl ?_
          have n9 : m3 (b + 2) 58 = m2 (b + 2) 58 := by rw [em3, zfl_ne (by omega)]
          refine zT.iconst dX13_drop_28 ?_
          refine zT.aload_n 0 dX13_drop_29 rfl rfl ?_
          refine zT.callV (M' := mX13_goes) (b := b) [] [zI 5, zI i] dX13_drop_30 kX13_284 rfl rfl (ci := 10) (r := (RX13, TX13, 62)) rfl (zMod.k hb) (C_X13_goes hb) (by decide) (k' := 0) (n' := 0) (by omega) (by omega) (by simp only [List.map, zcI, zcJ, zcR, List.sum_cons, List.sum_nil]; decide) (zdk (v := some (zI (m3 (b + 2) (58)))) ?_) (fun _ _ _ _ h => h.elim)
          show zT G _ _ _ _ [zI (m3 (b + 2) (58)), zI 5, zI i] _ _ _ _ _ _
          refine zT.imul dX13_drop_33 ?_
          refine zT.iconst dX13_drop_34 ?_
          refine zT.isub dX13_drop_35 ?_
          refine zT.ic_ge (tgt := 65) dX13_drop_36 (by decide) (by first | assumption | exact zq_i _ | exact zand_i _ _ | exact zor_i _ _ | exact zN _ | omega) (by first | assumption | exact zq_i _ | exact zand_i _ _ | exact zor_i _ _ | exact zN _ | omega) (fun c36 => ?_) (fun c36 => ?_)
          · refine zT.aload_n 0 dX13_drop_65 rfl rfl ?_
            refine zT.getF dX13_drop_66 fX13_13 rfl (zMod.k hb) (j := 14) (by decide) rfl (zMod.f1014 hb) ?_
            refine zT.bipush dX13_drop_69 ?_
            refine zT.dup2 dX13_drop_71 (zcI _) (zcR _) ?_
            refine zT.iald dX13_drop_72 (zMod.a1014 hb) (by first | assumption | exact zq_i _ | exact zand_i _ _ | exact zor_i _ _ | exact zN _ | omega) (by rw [(zMod.n1014 hb)]; first | assumption | exact zq_i _ | exact zand_i _ _ | exact zor_i _ _ | exact zN _ | omega) (fun z72 => ?_)
            have r72 : m3 (b + 2) 58 = m2 (b + 2) 58 := by rw [em3, zfl_ne (by omega)]
            rw [r72] at z72 ⊢
            refine zT.iconst dX13_drop_73 ?_
            refine zT.isub dX13_drop_74 ?_
            refine zT.iast dX13_drop_75 (zMod.a1014 hb) (by first | assumption | exact zq_i _ | exact zand_i _ _ | exact zor_i _ _ | exact zN _ | omega) (by rw [(zMod.n1014 hb)]; first | assumption | exact zq_i _ | exact zand_i _ _ | exact zor_i _ _ | exact zN _ | omega) (by first | assumption | exact zq_i _ | exact zand_i _ _ | exact zor_i _ _ | exact zN _ | omega) ?_
            obtain ⟨m4, em4⟩ : ∃ z, z = zup m3 (b + 2) 58 ((m2 (b + 2) 58) - 1) := ⟨_, rfl⟩
            rw [← em4]
            refine zT.iconst dX13_drop_76 ?_
            refine zT.zret dX13_drop_77 rfl (by omega) ?_
            rw [eQ9]
            rw [if_pos (by omega), if_pos (by omega)]
            refine ⟨rfl, rfl, ?_⟩
            unfold yDrop
            rw [em4, em3, show 59 + i = 54 + 5 * m2 (b + 2) 58 by omega, em2, em1]
          · refine zT.aload_n 0 dX13_drop_39 rfl rfl ?_
            refine zT.getF dX13_drop_40 fX13_13 rfl (zMod.k hb) (j := 14) (by decide) rfl (zMod.f1014 hb) ?_
            refine zT.bipush dX13_drop_43 ?_
            refine zT.iload_n 2 dX13_drop_45 rfl rfl ?_
            refine zT.iadd dX13_drop_46 ?_
            refine zT.aload_n 0 dX13_drop_47 rfl rfl ?_
            refine zT.getF dX13_drop_48 fX13_13 rfl (zMod.k hb) (j := 14) (by decide) rfl (zMod.f1014 hb) ?_
            refine zT.bipush dX13_drop_51 ?_
            refine zT.iload_n 2 dX13_drop_53 rfl rfl ?_
            refine zT.iadd dX13_drop_54 ?_
            refine zT.iconst dX13_drop_55 ?_
            refine zT.iadd dX13_drop_56 ?_
            refine zT.iald dX13_drop_57 (zMod.a1014 hb) (by first | assumption | exact zq_i _ | exact zand_i _ _ | exact zor_i _ _ | exact zN _ | omega) (by rw [(zMod.n1014 hb)]; first | assumption | exact zq_i _ | exact zand_i _ _ | exact zor_i _ _ | exact zN _ | omega) (fun z57 => ?_)
            have r57 : m3 (b + 2) ((59 + i) + 5) = m2 (b + 2) ((59 + i) + 5) := by rw [em3, zfl_ne (by omega)]
            rw [r57] at z57 ⊢
            refine zT.iast dX13_drop_58 (zMod.a1014 hb) (by first | assumption | exact zq_i _ | exact zand_i _ _ | exact zor_i _ _ | exact zN _ | omega) (by rw [(zMod.n1014 hb)]; first | assumption | exact zq_i _ | exact zand_i _ _ | exact zor_i _ _ | exact zN _ | omega) (by first | assumption | exact zq_i _ | exact zand_i _ _ | exact zor_i _ _ | exact zN _ | omega) ?_
            obtain ⟨m5, em5⟩ : ∃ z, z = zup m3 (b + 2) (59 + i) (m2 (b + 2) ((59 + i) + 5)) := ⟨_, rfl⟩
            rw [← em5]
            refine zT.iinc 2 dX13_drop_59 rfl (by decide) (zpre1 rfl (zcI _)) ?_
            show zT G _ _ _ [zR b, zI k, zI (i + 1)] _ _ _ _ _ _ _
            refine zT.goto (tgt := 27) dX13_drop_62 (by decide) ?_
            have eb27 : m5 = zfl m2 (b + 2) (59 + 5 * k) (59 + (i + 1)) (fun j => m2 (b + 2) (j + 5)) := by
              rw [em5, em3, show 59 + (i + 1) = 59 + i + 1 by omega]
              exact zfl_s (f := (fun j => m2 (b + 2) (j + 5))) (show 59 + 5 * k ≤ 59 + i by omega)
            refine zT.meq eb27 ?_
            exact ih27 _ (by first | assumption | exact zq_i _ | exact zand_i _ _ | exact zor_i _ _ | exact zN _ | omega) (by first | assumption | exact zq_i _ | exact zand_i _ _ | exact zor_i _ _ | exact zN _ | omega) (by omega)
      have eb27 : m2 = zfl m2 (b + 2) (59 + 5 * k) (59 + 5 * k) (fun j => m2 (b + 2) (j + 5)) := by
        exact zfl_0.symm
      refine zT.meq eb27 ?_
      exact L27 _ _ (by first | assumption | exact zq_i _ | exact zand_i _ _ | exact zor_i _ _ | exact zN _ | omega) (by first | assumption | exact zq_i _ | exact zand_i _ _ | exact zor_i _ _ | exact zN _ | omega) (Nat.lt_succ_self _)
    · refine zT.iconst dX13_drop_17 ?_
      refine zT.zret dX13_drop_18 rfl (by omega) ?_
      rw [eQ9]
      rw [if_neg (by omega), if_neg (by omega)]
      exact ⟨rfl, rfl, by rw [em1]⟩

theorem C_X13_later {G : zG} {S : zS} {m : zMm} {b : Int} {A : zMm} (hb : zMod S b) (hA : yEq m b A) (hV : aVd A) {k y : Int} (hk : zi k) (hy : zi y) : zC G mX13_later 2 0 0 [zR b, zI k, zI y] S m (zDet (some (zI (if (0 ≤ k ∧ k < A 2 58) ∧ y ≠ 0 ∧ (-900 ≤ y ∧ y ≤ 900) ∧ 0 ≤ aGo (A 2) 58 k 2 + y ∧ aGo (A 2) 58 k 2 + y ≤ 900 then 1 else 0))) S (if (0 ≤ k ∧ k < A 2 58) ∧ y ≠ 0 ∧ (-900 ≤ y ∧ y ≤ 900) ∧ 0 ≤ aGo (A 2) 58 k 2 + y ∧ aGo (A 2) 58 k 2 + y ≤ 900 then yMove (ysnap (zup m b 1000 0) b) b k (aGo (A 2) 58 k 2 + y) else zup m b 1000 0)) zNX := by
  have ym := hA.R hV
  have nm := ym.n
  have sm := ym.s
  have rm := ym.r
  have hk := hV.ki.1
  have hk0 := hk.1
  have hp0 := hV.pl.1
  have hp1 := hV.pl.2.1
  have hsn := hA.at (j := 1022)
  have hsv := hV.un.1
  refine zC.of [zR b, zI k, zI y] (by decide) rfl (zEn1 (zcR _) (zEn1 (zcI _) (zEn1 (zcI _) (zEn0 (by simp))))) rfl ?_
  refine zT.rng hb.a1014 (fun zN => ?_)
  obtain ⟨Q9, eQ9⟩ : ∃ z : zQt, z = (zDet (some (zI (if (0 ≤ k ∧ k < A 2 58) ∧ y ≠ 0 ∧ (-900 ≤ y ∧ y ≤ 900) ∧ 0 ≤ aGo (A 2) 58 k 2 + y ∧ aGo (A 2) 58 k 2 + y ≤ 900 then 1 else 0))) S (if (0 ≤ k ∧ k < A 2 58) ∧ y ≠ 0 ∧ (-900 ≤ y ∧ y ≤ 900) ∧ 0 ≤ aGo (A 2) 58 k 2 + y ∧ aGo (A 2) 58 k 2 + y ≤ 900 then yMove (ysnap (zup m b 1000 0) b) b k (aGo (A 2) 58 k 2 + y) else zup m b 1000 0)) := ⟨_, rfl⟩
  rw [← eQ9]
  refine zT.aload_n 0 dX13_later_0 rfl rfl ?_
  refine zT.iconst dX13_later_1 ?_
  refine zT.putI dX13_later_2 fX13_122 zs_1000 rfl (zMod.k hb) (j := 0) (by decide) rfl (by first | assumption | exact zq_i _ | exact zand_i _ _ | exact zor_i _ _ | exact zN _ | omega) ?_
  obtain ⟨m1, em1⟩ : ∃ z, z = zup m b 1000 0 := ⟨_, rfl⟩
  rw [← em1]
  have ym1 : yR m1 b A := by rw [em1]; exact ym.up (by omega)
  have nm1 := ym1.n
  have sm1 := ym1.s
  have rm1 := ym1.r
  refine zT.iload_n 1 dX13_later_5 rfl rfl ?_
  refine zT.if_lt (tgt := 51) dX13_later_6 (by decide) (by first | assumption | exact zq_i _ | exact zand_i _ _ | exact zor_i _ _ | exact zN _ | omega) (fun c6 => ?_) (fun c6 => ?_)
  · refine zT.iconst dX13_later_51 ?_
    refine zT.zret dX13_later_52 rfl (by omega) ?_
    rw [eQ9]
    rw [if_neg (by omega), if_neg (by omega)]
    exact ⟨rfl, rfl, by rw [em1]⟩
  · refine zT.iload_n 1 dX13_later_9 rfl rfl ?_
    refine zT.aload_n 0 dX13_later_10 rfl rfl ?_
    refine zT.callV (M' := mX13_goes) (b := b) [] [zI k] dX13_later_11 kX13_284 rfl rfl (ci := 10) (r := (RX13, TX13, 62)) rfl (zMod.k hb) (C_X13_goes hb) (by decide) (k' := 0) (n' := 0) (by omega) (by omega) (by simp only [List.map, zcI, zcJ, zcR, List.sum_cons, List.sum_nil]; decide) (zdk (v := some (zI (m1 (b + 2) (58)))) ?_) (fun _ _ _ _ h => h.elim)
    show zT G _ _ _ _ [zI (m1 (b + 2) (58)), zI k] _ _ _ _ _ _
    refine zT.ic_ge (tgt := 51) dX13_later_14 (by decide) (by first | assumption | exact zq_i _ | exact zand_i _ _ | exact zor_i _ _ | exact zN _ | omega) (by first | assumption | exact zq_i _ | exact zand_i _ _ | exact zor_i _ _ | exact zN _ | omega) (fun c14 => ?_) (fun c14 => ?_)
    · refine zT.iconst dX13_later_51 ?_
      refine zT.zret dX13_later_52 rfl (by omega) ?_
      rw [eQ9]
      rw [if_neg (by omega), if_neg (by omega)]
      exact ⟨rfl, rfl, by rw [em1]⟩
    · refine zT.iload_n 2 dX13_later_17 rfl rfl ?_
      refine zT.if_eq (tgt := 51) dX13_later_18 (by decide) (by first | assumption | exact zq_i _ | exact zand_i _ _ | exact zor_i _ _ | exact zN _ | omega) (fun c18 => ?_) (fun c18 => ?_)
      · refine zT.iconst dX13_later_51 ?_
        refine zT.zret dX13_later_52 rfl (by omega) ?_
        rw [eQ9]
        rw [if_neg (by omega), if_neg (by omega)]
        exact ⟨rfl, rfl, by rw [em1]⟩
      · refine zT.iload_n 2 dX13_later_21 rfl rfl ?_
        refine zT.sipush dX13_later_22 ?_
        refine zT.sipush dX13_later_25 ?_
        refine zT.callS (M' := mX13_isIn) [zI y, zI (-900), zI 900] [] dX13_later_28 kX13_189 rfl rfl (C_X13_isIn (by first | assumption | exact zq_i _ | exact zand_i _ _ | exact zor_i _ _ | exact zN _ | omega) (by first | assumption | exact zq_i _ | exact zand_i _ _ | exact zor_i _ _ | exact zN _ | omega) (by first | assumption | exact zq_i _ | exact zand_i _ _ | exact zor_i _ _ | exact zN _ | omega)) (by decide) (k' := 0) (n' := 0) (by omega) (by omega) (by decide) (zdk (v := some (zI (zq ((-900) ≤ y ∧ y ≤ 900)))) ?_) (fun _ _ _ _ h => h.elim)
        show zT G _ _ _ _ [zI (zq ((-900) ≤ y ∧ y ≤ 900))] _ _ _ _ _ _
        refine zT.if_eqB (tgt := 51) dX13_later_31 (by decide) (fun c31 => ?_) (fun c31 => ?_)
        · refine zT.iconst dX13_later_51 ?_
          refine zT.zret dX13_later_52 rfl (by omega) ?_
          rw [eQ9]
          rw [if_neg (by omega), if_neg (by omega)]
          exact ⟨rfl, rfl, by rw [em1]⟩
        · have ge1 := ym1.g.2 k 2 (by omega) (by omega) (by omega) (by omega)
          have gv1 := hV.pl.2.2 k (by omega) (by omega)
          refine zT.aload_n 0 dX13_later_34 rfl rfl ?_
          refine zT.iload_n 1 dX13_later_35 rfl rfl ?_
          refine zT.callV (M' := mX13_from) (b := b) [zI k] [] dX13_later_36 kX13_297 rfl rfl (ci := 10) (r := (RX13, TX13, 62)) rfl (zMod.k hb) (C_X13_from hb (by first | assumption | exact zq_i _ | exact zand_i _ _ | exact zor_i _ _ | exact zN _ | omega)) (by decide) (k' := 0) (n' := 0) (by omega) (by omega) (by decide) (zdk (v := some (zI (m1 (b + 2) (59 + 5 * k + 2)))) ?_) (fun _ _ _ _ h => h.elim)
          show zT G _ _ _ _ [zI (m1 (b + 2) (59 + 5 * k + 2))] _ _ _ _ _ _
          refine zT.iload_n 2 dX13_later_39 rfl rfl ?_
          refine zT.iadd dX13_later_40 ?_
          refine zT.iconst dX13_later_41 ?_
          refine zT.sipush dX13_later_42 ?_
          refine zT.callS (M' := mX13_isIn) [zI ((m1 (b + 2) (59 + 5 * k + 2)) + y), zI 0, zI 900] [] dX13_later_45 kX13_189 rfl rfl (C_X13_isIn (by first | assumption | exact zq_i _ | exact zand_i _ _ | exact zor_i _ _ | exact zN _ | omega) (by first | assumption | exact zq_i _ | exact zand_i _ _ | exact zor_i _ _ | exact zN _ | omega) (by first | assumption | exact zq_i _ | exact zand_i _ _ | exact zor_i _ _ | exact zN _ | omega)) (by decide) (k' := 0) (n' := 0) (by omega) (by omega) (by decide) (zdk (v := some (zI (zq (0 ≤ ((m1 (b + 2) (59 + 5 * k + 2)) + y) ∧ ((m1 (b + 2) (59 + 5 * k + 2)) + y) ≤ 900)))) ?_) (fun _ _ _ _ h => h.elim)
          show zT G _ _ _ _ [zI (zq (0 ≤ ((m1 (b + 2) (59 + 5 * k + 2)) + y) ∧ ((m1 (b + 2) (59 + 5 * k + 2)) + y) ≤ 900))] _ _ _ _ _ _
          refine zT.if_neB (tgt := 53) dX13_later_48 (by decide) (fun c48 => ?_) (fun c48 => ?_)
          · refine zT.aload_n 0 dX13_later_53 rfl rfl ?_
            refine zT.callV (M' := mX13_snap) (b := b) [] [] dX13_later_54 kX13_290 rfl rfl (ci := 10) (r := (RX13, TX13, 62)) rfl (zMod.k hb) (C_X13_snap hb (by rw [em1, zup_ne (by omega)]; omega) (by rw [em1, zup_ne (by omega)]; omega)) (by decide) (k' := 0) (n' := 0) (by omega) (by omega) (by decide) (zdk (v := none) ?_) (fun _ _ _ _ h => h.elim)
            show zT G _ _ _ _ [] _ _ _ _ _ _
            obtain ⟨m2, em2⟩ : ∃ z, z = ysnap m1 b := ⟨_, rfl⟩
            rw [← em2]
            have ym2 : yR m2 b A := ym1.row (fun j => by rw [em2]; exact ysnap_2)
            have nm2 := ym2.n
            have sm2 := ym2.s
            have rm2 := ym2.r
            have ge2 := ym2.g.2 k 2 (by omega) (by omega) (by omega) (by omega)
            refine zT.aload_n 0 dX13_later_57 rfl rfl ?_
            refine zT.getF dX13_later_58 fX13_13 rfl (zMod.k hb) (j := 14) (by decide) rfl (zMod.f1014 hb) ?_
            refine zT.bipush dX13_later_61 ?_
            refine zT.iconst dX13_later_63 ?_
            refine zT.iload_n 1 dX13_later_64 rfl rfl ?_
            refine zT.imul dX13_later_65 ?_
            refine zT.iadd dX13_later_66 ?_
            refine zT.iconst dX13_later_67 ?_
            refine zT.iadd dX13_later_68 ?_
            refine zT.dup2 dX13_later_69 (zcI _) (zcR _) ?_
            refine zT.iald dX13_later_70 (zMod.a1014 hb) (by first | assumption | exact zq_i _ | exact zand_i _ _ | exact zor_i _ _ | exact zN _ | omega) (by rw [(zMod.n1014 hb)]; first | assumption | exact zq_i _ | exact zand_i _ _ | exact zor_i _ _ | exact zN _ | omega) (fun z70 => ?_)
            refine zT.iload_n 2 dX13_later_71 rfl rfl ?_
            refine zT.iadd dX13_later_72 ?_
            refine zT.iast dX13_later_73 (zMod.a1014 hb) (by first | assumption | exact zq_i _ | exact zand_i _ _ | exact zor_i _ _ | exact zN _ | omega) (by rw [(zMod.n1014 hb)]; first | assumption | exact zq_i _ | exact zand_i _ _ | exact zor_i _ _ | exact zN _ | omega) (by first | assumption | exact zq_i _ | exact zand_i _ _ | exact zor_i _ _ | exact zN _ | omega) ?_
            obtain ⟨m3, em3⟩ : ∃ z, z = zup m2 (b + 2) ((59 + (5 * k)) + 2) ((m2 (b + 2) ((59 + (5 * k)) + 2)) + y) := ⟨_, rfl⟩
            rw [← em3]
            refine zT.iconst dX13_later_74 ?_
            refine zT.zret dX13_later_75 rfl (by omega) ?_
            rw [eQ9]
            rw [if_pos (by omega), if_pos (by omega)]
            refine ⟨rfl, rfl, ?_⟩
            unfold yMove
            rw [em3, ge2, em2, em1]
          · refine zT.iconst dX13_later_51 ?_
            refine zT.zret dX13_later_52 rfl (by omega) ?_
            rw [eQ9]
            rw [if_neg (by omega), if_neg (by omega)]
            exact ⟨rfl, rfl, by rw [em1]⟩

def yUndo (m : zMm) (b : Int) : zMm := zfl (zup m b 1022 (m b 1022 - 1)) (b + 2) 58 2059 (fun j => m (b + 5) (2001 * (m b 1022 - 1) + (j - 58)))
theorem yEq.undo {m : zMm} {b : Int} {A : zMm} (h : yEq m b A) : yEq (yUndo m b) b (uUndo A) := by
  unfold yUndo uUndo
  rw [h.at]
  exact h.up0.fl (by omega) (fun j _ _ => h 5 _ (by omega) (by omega))
theorem C_X13_undo {G : zG} {S : zS} {m : zMm} {b : Int} {A : zMm} (hb : zMod S b) (hA : yEq m b A) (hV : aVd A)  : zC G mX13_undo 2 0 0 [zR b] S m (zDet (some (zI (if A 0 1022 = 0 then -1 else A 0 1022 - 1))) S (if A 0 1022 = 0 then ylaid (zup m b 1000 0) b else yUndo (ylaid (zup m b 1000 0) b) b)) zNX := by
  have ym := hA.R hV
  have nm := ym.n
  have sm := ym.s
  have rm := ym.r
  have hk := hV.ki.1
  have hk0 := hk.1
  have hp0 := hV.pl.1
  have hp1 := hV.pl.2.1
  have hsn := hA.at (j := 1022)
  have hsv := hV.un.1
  refine zC.of [zR b, zU] (by decide) rfl (zEn1 (zcR _) (zEn0 (by simp))) rfl ?_
  refine zT.rng hb.a1014 (fun zN => ?_)
  obtain ⟨Q9, eQ9⟩ : ∃ z : zQt, z = (zDet (some (zI (if A 0 1022 = 0 then -1 else A 0 1022 - 1))) S (if A 0 1022 = 0 then ylaid (zup m b 1000 0) b else yUndo (ylaid (zup m b 1000 0) b) b)) := ⟨_, rfl⟩
  rw [← eQ9]
  refine zT.aload_n 0 dX13_undo_0 rfl rfl ?_
  refine zT.iconst dX13_undo_1 ?_
  refine zT.putI dX13_undo_2 fX13_122 zs_1000 rfl (zMod.k hb) (j := 0) (by decide) rfl (by first | assumption | exact zq_i _ | exact zand_i _ _ | exact zor_i _ _ | exact zN _ | omega) ?_
  obtain ⟨m1, em1⟩ : ∃ z, z = zup m b 1000 0 := ⟨_, rfl⟩
  rw [← em1]
  have ym1 : yR m1 b A := by rw [em1]; exact ym.up (by omega)
  have nm1 := ym1.n
  have sm1 := ym1.s
  have rm1 := ym1.r
  refine zT.aload_n 0 dX13_undo_5 rfl rfl ?_
  refine zT.callV (M' := mX13_lay) (b := b) [] [] dX13_undo_6 kX13_202 rfl rfl (ci := 10) (r := (RX13, TX13, 62)) rfl (zMod.k hb) (C_X13_lay hb) (by decide) (k' := 0) (n' := 0) (by omega) (by omega) (by decide) (zdk (v := none) ?_) (fun _ _ _ _ h => h.elim)
  show zT G _ _ _ _ [] _ _ _ _ _ _
  obtain ⟨m2, em2⟩ : ∃ z, z = ylaid m1 b := ⟨_, rfl⟩
  rw [← em2]
  have ym2 : yL m2 b A := by rw [em2]; exact hA.L2 hV (fun j => by rw [em1, zup_ne (by omega)]) (by rw [em1, zup_ne (by omega)])
  have nm2 := ym2.1.n
  have sm2 := ym2.1.s
  have rm2 := ym2.1.r
  refine zT.aload_n 0 dX13_undo_9 rfl rfl ?_
  refine zT.getI dX13_undo_10 fX13_268 rfl (zMod.k hb) (j := 22) (by decide) rfl (fun z10 => ?_)
  have r10 : m2 b 1022 = m b 1022 := by rw [em2, ylaid_f (by decide), em1, zup_ne (by omega)]
  rw [r10] at z10 ⊢
  refine zT.if_ne (tgt := 18) dX13_undo_13 (by decide) (by first | assumption | exact zq_i _ | exact zand_i _ _ | exact zor_i _ _ | exact zN _ | omega) (fun c13 => ?_) (fun c13 => ?_)
  · refine zT.aload_n 0 dX13_undo_18 rfl rfl ?_
    refine zT.dup dX13_undo_19 (zcR _) ?_
    refine zT.getI dX13_undo_20 fX13_268 rfl (zMod.k hb) (j := 22) (by decide) rfl (fun z20 => ?_)
    have r20 : m2 b 1022 = m b 1022 := by rw [em2, ylaid_f (by decide), em1, zup_ne (by omega)]
    rw [r20] at z20 ⊢
    refine zT.iconst dX13_undo_23 ?_
    refine zT.isub dX13_undo_24 ?_
    refine zT.putI dX13_undo_25 fX13_268 zs_1022 rfl (zMod.k hb) (j := 22) (by decide) rfl (by first | assumption | exact zq_i _ | exact zand_i _ _ | exact zor_i _ _ | exact zN _ | omega) ?_
    obtain ⟨m3, em3⟩ : ∃ z, z = zup m2 b 1022 ((m b 1022) - 1) := ⟨_, rfl⟩
    rw [← em3]
    have ym3 : yL m3 b A := by rw [em3]; exact ym2.up (by omega)
    have nm3 := ym3.1.n
    have sm3 := ym3.1.s
    have rm3 := ym3.1.r
    refine zT.iconst dX13_undo_28 ?_
    refine zT.istore_n 1 dX13_undo_29 rfl (by decide) (zpre1 rfl (zcR _)) ?_
    show zT G _ _ _ [zR b, zI 0] _ _ _ _ _ _ _
    have L30 : ∀ (N : Nat) (k : Int), (0 ≤ k) → (k ≤ 2001) → ((2001 - k).toNat) < N → zT G mX13_undo 2 30 [zR b, zI k] [] S (zfl (zup m2 b 1022 (A 0 1022 - 1)) (b + 2) 58 (58 + k) (fun j => m2 (b + 5) (2001 * (A 0 1022 - 1) + (j - 58)))) 0 0 Q9 zNX := by
      intro N
      induction N with
      | zero => intro k k0 k1 hN; exact absurd hN (Nat.not_lt_zero _)
      | succ N ih30 =>
        intro k k0 k1 hN
        obtain ⟨m4, em4⟩ : ∃ z, z = zfl (zup m2 b 1022 (A 0 1022 - 1)) (b + 2) 58 (58 + k) (fun j => m2 (b + 5) (2001 * (A 0 1022 - 1) + (j - 58))) := ⟨_, rfl⟩
        rw [← em4]
        refine zT.iload_n 1 dX13_undo_30 rfl rfl ?_
        refine zT.sipush dX13_undo_31 ?_
        refine zT.ic_ge (tgt := 67) dX13_undo_34 (by decide) (by first | assumption | exact zq_i _ | exact zand_i _ _ | exact zor_i _ _ | exact zN _ | omega) (by first | assumption | exact zq_i _ | exact zand_i _ _ | exact zor_i _ _ | exact zN _ | omega) (fun c34 => ?_) (fun c34 => ?_)
        · refine zT.aload_n 0 dX13_undo_67 rfl rfl ?_
          refine zT.getI dX13_undo_68 fX13_268 rfl (zMod.k hb) (j := 22) (by decide) rfl (fun z68 => ?_)
          have r68 : m4 b 1022 = (A 0 1022 - 1) := by rw [em4, zfl_ne (by omega), zup_at]
          rw [r68] at z68 ⊢
          refine zT.iret dX13_undo_71 rfl ?_
          rw [eQ9]
          rw [if_neg (by omega), if_neg (by omega)]
          refine ⟨rfl, rfl, ?_⟩
          have e9 : ylaid (zup m b 1000 0) b b 1022 = A 0 1022 := by rw [ylaid_f (by decide), zup_ne (by omega), hsn]
          unfold yUndo
          rw [e9, em4, show k = 2001 by omega, em2, em1]
          rfl
        · refine zT.aload_n 0 dX13_undo_37 rfl rfl ?_
          refine zT.getF dX13_undo_38 fX13_13 rfl (zMod.k hb) (j := 14) (by decide) rfl (zMod.f1014 hb) ?_
          refine zT.bipush dX13_undo_41 ?_
          refine zT.iload_n 1 dX13_undo_43 rfl rfl ?_
          refine zT.iadd dX13_undo_44 ?_
          refine zT.aload_n 0 dX13_undo_45 rfl rfl ?_
          refine zT.getF dX13_undo_46 fX13_22 rfl (zMod.k hb) (j := 17) (by decide) rfl (zMod.f1017 hb) ?_
          refine zT.sipush dX13_undo_49 ?_
          refine zT.aload_n 0 dX13_undo_52 rfl rfl ?_
          refine zT.getI dX13_undo_53 fX13_268 rfl (zMod.k hb) (j := 22) (by decide) rfl (fun z53 => ?_)
          have r53 : m4 b 1022 = (A 0 1022 - 1) := by rw [em4, zfl_ne (by omega), zup_at]
          rw [r53] at z53 ⊢
          refine zT.imul dX13_undo_56 ?_
          refine zT.iload_n 1 dX13_undo_57 rfl rfl ?_
          refine zT.iadd dX13_undo_58 ?_
          refine zT.iald dX13_undo_59 (zMod.a1017 hb) (by first | assumption | exact zq_i _ | exact zand_i _ _ | exact zor_i _ _ | exact zN _ | omega) (by rw [(zMod.n1017 hb)]; first | assumption | exact zq_i _ | exact zand_i _ _ | exact zor_i _ _ | exact zN _ | omega) (fun z59 => ?_)
          have r59 : m4 (b + 5) ((2001 * (A 0 1022 - 1)) + k) = m2 (b + 5) ((2001 * (A 0 1022 - 1)) + k) := by rw [em4, zfl_ne (by omega), zup_ne (by omega)]
          rw [r59] at z59 ⊢
          refine zT.iast dX13_undo_60 (zMod.a1014 hb) (by first | assumption | exact zq_i _ | exact zand_i _ _ | exact zor_i _ _ | exact zN _ | omega) (by rw [(zMod.n1014 hb)]; first | assumption | exact zq_i _ | exact zand_i _ _ | exact zor_i _ _ | exact zN _ | omega) (by first | assumption | exact zq_i _ | exact zand_i _ _ | exact zor_i _ _ | exact zN _ | omega) ?_
          obtain ⟨m5, em5⟩ : ∃ z, z = zup m4 (b + 2) (58 + k) (m2 (b + 5) ((2001 * (A 0 1022 - 1)) + k)) := ⟨_, rfl⟩
          rw [← em5]
          refine zT.iinc 1 dX13_undo_61 rfl (by decide) (zpre1 rfl (zcR _)) ?_
          show zT G _ _ _ [zR b, zI (k + 1)] _ _ _ _ _ _ _
          refine zT.goto (tgt := 30) dX13_undo_64 (by decide) ?_
          have eb30 : m5 = zfl (zup m2 b 1022 (A 0 1022 - 1)) (b + 2) 58 (58 + (k + 1)) (fun j => m2 (b + 5) (2001 * (A 0 1022 - 1) + (j - 58))) := by
            rw [em5, em4, show 58 + (k + 1) = 58 + k + 1 by omega, show 2001 * (A 0 1022 - 1) + k = 2001 * (A 0 1022 - 1) + (58 + k - 58) by omega]
            exact zfl_s (f := (fun j => m2 (b + 5) (2001 * (A 0 1022 - 1) + (j - 58)))) (show 58 ≤ 58 + k by omega)
          refine zT.meq eb30 ?_
          exact ih30 _ (by first | assumption | exact zq_i _ | exact zand_i _ _ | exact zor_i _ _ | exact zN _ | omega) (by first | assumption | exact zq_i _ | exact zand_i _ _ | exact zor_i _ _ | exact zN _ | omega) (by omega)
    have eb30 : m3 = zfl (zup m2 b 1022 (A 0 1022 - 1)) (b + 2) 58 (58 + 0) (fun j => m2 (b + 5) (2001 * (A 0 1022 - 1) + (j - 58))) := by
      rw [Int.add_zero, zfl_0, em3, hsn]
    refine zT.meq eb30 ?_
    exact L30 _ _ (by first | assumption | exact zq_i _ | exact zand_i _ _ | exact zor_i _ _ | exact zN _ | omega) (by first | assumption | exact zq_i _ | exact zand_i _ _ | exact zor_i _ _ | exact zN _ | omega) (Nat.lt_succ_self _)
  · refine zT.iconst dX13_undo_16 ?_
    refine zT.iret dX13_undo_17 rfl ?_
    rw [eQ9]
    rw [if_pos (by omega), if_pos (by omega)]
    exact ⟨rfl, rfl, by rw [em2, em1]⟩

