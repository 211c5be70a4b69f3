/-! PanSlicesModel: what changes the row and the snapshots (written by gen/m_mod3.py) -/
/-- a go more in the row -/
def ylay (m : zMm) (b s c f a n : Int) : zMm := zup (zup (zup (zup (zup (zup m (b + 2) (59 + 5 * m (b + 2) 58) s) (b + 2) (59 + 5 * m (b + 2) 58 + 1) c) (b + 2) (59 + 5 * m (b + 2) 58 + 2) f) (b + 2) (59 + 5 * m (b + 2) 58 + 3) a) (b + 2) (59 + 5 * m (b + 2) 58 + 4) n) (b + 2) 58 (m (b + 2) 58 + 1)
theorem C_X13_lays {G : zG} {S : zS} {m : zMm} {b : Int} (hb : zMod S b) {s c f a n : Int} (h0 : 0 ≤ m (b + 2) 58) (h1 : m (b + 2) 58 < 400) (hs : zi s) (hc : zi c) (hf : zi f) (ha : zi a) (hn : zi n) : zC G mX13_lays 1 0 0 [zR b, zI s, zI c, zI f, zI a, zI n] S m (zDet none S (ylay m b s c f a n)) zNX := by
  refine zC.of [zR b, zI s, zI c, zI f, zI a, zI n, zU] (by decide) rfl (zEn1 (zcR _) (zEn1 (zcI _) (zEn1 (zcI _) (zEn1 (zcI _) (zEn1 (zcI _) (zEn1 (zcI _) (zEn0 (by simp)))))))) rfl ?_
  refine zT.bipush dX13_lays_0 ?_
  refine zT.iconst dX13_lays_2 ?_
  refine zT.aload_n 0 dX13_lays_3 rfl rfl ?_
  refine zT.callV (M' := mX13_goes) (b := b) [] [zI 5, zI 59] dX13_lays_4 kX13_284 rfl rfl (ci := 10) (r := (RX13, TX13, 62)) rfl (zMod.k hb) (C_X13_goes hb) (by decide) (k' := 0) (n' := 0) (by omega) (by omega) (by simp only [List.map, zcI, zcJ, zcR, List.sum_cons, List.sum_nil]; decide) (zdk (v := some (zI (m (b + 2) (58)))) ?_) (fun _ _ _ _ h => h.elim)
  show zT G _ _ _ _ [zI (m (b + 2) (58)), zI 5, zI 59] _ _ _ _ _ _
  refine zT.imul dX13_lays_7 ?_
  refine zT.iadd dX13_lays_8 ?_
  refine zT.istore 6 dX13_lays_9 (by decide) (zpre1 rfl (zcI _)) ?_
  show zT G _ _ _ [zR b, zI s, zI c, zI f, zI a, zI n, zI (59 + (5 * (m (b + 2) (58))))] _ _ _ _ _ _ _
  refine zT.aload_n 0 dX13_lays_11 rfl rfl ?_
  refine zT.getF dX13_lays_12 fX13_13 rfl (zMod.k hb) (j := 14) (by decide) rfl (zMod.f1014 hb) ?_
  refine zT.iload 6 dX13_lays_15 rfl ?_
  refine zT.iload_n 1 dX13_lays_17 rfl rfl ?_
  refine zT.iast dX13_lays_18 (zMod.a1014 hb) (by first | assumption | exact zq_i _ | exact zand_i _ _ | exact zor_i _ _ | exact zxor_i _ _ | exact zN _ | omega) (by rw [(zMod.n1014 hb)]; first | assumption | exact zq_i _ | exact zand_i _ _ | exact zor_i _ _ | exact zxor_i _ _ | exact zN _ | omega) (by first | assumption | exact zq_i _ | exact zand_i _ _ | exact zor_i _ _ | exact zxor_i _ _ | exact zN _ | omega) ?_
  obtain ⟨m1, em1⟩ : ∃ z, z = zup m (b + 2) (59 + (5 * (m (b + 2) (58)))) s := ⟨_, rfl⟩
  rw [← em1]
  refine zT.aload_n 0 dX13_lays_19 rfl rfl ?_
  refine zT.getF dX13_lays_20 fX13_13 rfl (zMod.k hb) (j := 14) (by decide) rfl (zMod.f1014 hb) ?_
  refine zT.iload 6 dX13_lays_23 rfl ?_
  refine zT.iconst dX13_lays_25 ?_
  refine zT.iadd dX13_lays_26 ?_
  refine zT.iload_n 2 dX13_lays_27 rfl rfl ?_
  refine zT.iast dX13_lays_28 (zMod.a1014 hb) (by first | assumption | exact zq_i _ | exact zand_i _ _ | exact zor_i _ _ | exact zxor_i _ _ | exact zN _ | omega) (by rw [(zMod.n1014 hb)]; first | assumption | exact zq_i _ | exact zand_i _ _ | exact zor_i _ _ | exact zxor_i _ _ | exact zN _ | omega) (by first | assumption | exact zq_i _ | exact zand_i _ _ | exact zor_i _ _ | exact zxor_i _ _ | exact zN _ | omega) ?_
  obtain ⟨m2, em2⟩ : ∃ z, z = zup m1 (b + 2) ((59 + (5 * (m (b + 2) (58)))) + 1) c := ⟨_, rfl⟩
  rw [← em2]
  refine zT.aload_n 0 dX13_lays_29 rfl rfl ?_
  refine zT.getF dX13_lays_30 fX13_13 rfl (zMod.k hb) (j := 14) (by decide) rfl (zMod.f1014 hb) ?_
  refine zT.iload 6 dX13_lays_33 rfl ?_
  refine zT.iconst dX13_lays_35 ?_
  refine zT.iadd dX13_lays_36 ?_
  refine zT.iload_n 3 dX13_lays_37 rfl rfl ?_
  refine zT.iast dX13_lays_38 (zMod.a1014 hb) (by first | assumption | exact zq_i _ | exact zand_i _ _ | exact zor_i _ _ | exact zxor_i _ _ | exact zN _ | omega) (by rw [(zMod.n1014 hb)]; first | assumption | exact zq_i _ | exact zand_i _ _ | exact zor_i _ _ | exact zxor_i _ _ | exact zN _ | omega) (by first | assumption | exact zq_i _ | exact zand_i _ _ | exact zor_i _ _ | exact zxor_i _ _ | exact zN _ | omega) ?_
  obtain ⟨m3, em3⟩ : ∃ z, z = zup m2 (b + 2) ((59 + (5 * (m (b + 2) (58)))) + 2) f := ⟨_, rfl⟩
  rw [← em3]
  refine zT.aload_n 0 dX13_lays_39 rfl rfl ?_
  refine zT.getF dX13_lays_40 fX13_13 rfl (zMod.k hb) (j := 14) (by decide) rfl (zMod.f1014 hb) ?_
  refine zT.iload 6 dX13_lays_43 rfl ?_
  refine zT.iconst dX13_lays_45 ?_
  refine zT.iadd dX13_lays_46 ?_
  refine zT.iload 4 dX13_lays_47 rfl ?_
  refine zT.iast dX13_lays_49 (zMod.a1014 hb) (by first | assumption | exact zq_i _ | exact zand_i _ _ | exact zor_i _ _ | exact zxor_i _ _ | exact zN _ | omega) (by rw [(zMod.n1014 hb)]; first | assumption | exact zq_i _ | exact zand_i _ _ | exact zor_i _ _ | exact zxor_i _ _ | exact zN _ | omega) (by first | assumption | exact zq_i _ | exact zand_i _ _ | exact zor_i _ _ | exact zxor_i _ _ | exact zN _ | omega) ?_
  obtain ⟨m4, em4⟩ : ∃ z, z = zup m3 (b + 2) ((59 + (5 * (m (b + 2) (58)))) + 3) a := ⟨_, rfl⟩
  rw [← em4]
  refine zT.aload_n 0 dX13_lays_50 rfl rfl ?_
  refine zT.getF dX13_lays_51 fX13_13 rfl (zMod.k hb) (j := 14) (by decide) rfl (zMod.f1014 hb) ?_
  refine zT.iload 6 dX13_lays_54 rfl ?_
  refine zT.iconst dX13_lays_56 ?_
  refine zT.iadd dX13_lays_57 ?_
  refine zT.iload 5 dX13_lays_58 rfl ?_
  refine zT.iast dX13_lays_60 (zMod.a1014 hb) (by first | assumption | exact zq_i _ | exact zand_i _ _ | exact zor_i _ _ | exact zxor_i _ _ | exact zN _ | omega) (by rw [(zMod.n1014 hb)]; first | assumption | exact zq_i _ | exact zand_i _ _ | exact zor_i _ _ | exact zxor_i _ _ | exact zN _ | omega) (by first | assumption | exact zq_i _ | exact zand_i _ _ | exact zor_i _ _ | exact zxor_i _ _ | exact zN _ | omega) ?_
  obtain ⟨m5, em5⟩ : ∃ z, z = zup m4 (b + 2) ((59 + (5 * (m (b + 2) (58)))) + 4) n := ⟨_, rfl⟩
  rw [← em5]
  refine zT.aload_n 0 dX13_lays_61 rfl rfl ?_
  refine zT.getF dX13_lays_62 fX13_13 rfl (zMod.k hb) (j := 14) (by decide) rfl (zMod.f1014 hb) ?_
  refine zT.bipush dX13_lays_65 ?_
  refine zT.dup2 dX13_lays_67 (zcI _) (zcR _) ?_
  refine zT.iald dX13_lays_68 (zMod.a1014 hb) (by first | assumption | exact zq_i _ | exact zand_i _ _ | exact zor_i _ _ | exact zxor_i _ _ | exact zN _ | omega) (by rw [(zMod.n1014 hb)]; first | assumption | exact zq_i _ | exact zand_i _ _ | exact zor_i _ _ | exact zxor_i _ _ | exact zN _ | omega) (fun z68 => ?_)
  have r68 : m5 (b + 2) 58 = m (b + 2) 58 := by rw [em5, zup_ne (by omega), em4, zup_ne (by omega), em3, zup_ne (by omega), em2, zup_ne (by omega), em1, zup_ne (by omega)]
  rw [r68] at z68 ⊢
  refine zT.iconst dX13_lays_69 ?_
  refine zT.iadd dX13_lays_70 ?_
  refine zT.iast dX13_lays_71 (zMod.a1014 hb) (by first | assumption | exact zq_i _ | exact zand_i _ _ | exact zor_i _ _ | exact zxor_i _ _ | exact zN _ | omega) (by rw [(zMod.n1014 hb)]; first | assumption | exact zq_i _ | exact zand_i _ _ | exact zor_i _ _ | exact zxor_i _ _ | exact zN _ | omega) (by first | assumption | exact zq_i _ | exact zand_i _ _ | exact zor_i _ _ | exact zxor_i _ _ | exact zN _ | omega) ?_
  obtain ⟨m6, em6⟩ : ∃ z, z = zup m5 (b + 2) 58 ((m (b + 2) 58) + 1) := ⟨_, rfl⟩
  rw [← em6]
  refine zT.vret dX13_lays_72 rfl ?_
  exact ⟨rfl, rfl, by unfold ylay; simp only [*]⟩

/-- the numbers of a kitchen that nobody told -/
def aK0 (j : Int) : Int := if j = 0 then 2 else if j = 2 then 10 else if j = 4 then 1 else 0
def yplain (m : zMm) (a : Int) : zMm := fun c j => if c = a ∧ 0 ≤ j ∧ j < 58 then aK0 j else m c j
theorem C_X13_plain {G : zG} {S : zS} {m : zMm} {a L : Int} (ha : zk S a = 101) (hn : zn S a = L) (hL : 58 ≤ L) : zC G mX13_plain 0 0 0 [zR a] S m (zDet none S (yplain m a)) zNX := by
  refine zC.of [zR a, zU] (by decide) rfl (zEn1 (zcR _) (zEn0 (by simp))) rfl ?_
  refine zT.iconst dX13_plain_0 ?_
  refine zT.istore_n 1 dX13_plain_1 rfl (by decide) (zpre1 rfl (zcR _)) ?_
  show zT G _ _ _ [zR a, zI 0] _ _ _ _ _ _ _
  have L2 : ∀ (N : Nat) (i : Int), (0 ≤ i) → (i ≤ 58) → ((58 - i).toNat) < N → zT G mX13_plain 0 2 [zR a, zI i] [] S (zfl m a 0 i (fun _ => 0)) 0 0 (zDet none S (yplain m a)) zNX := by
    intro N
    induction N with
    | zero => intro i i0 i1 hN; exact absurd hN (Nat.not_lt_zero _)
    | succ N ih2 =>
      intro i i0 i1 hN
      obtain ⟨m1, em1⟩ : ∃ z, z = zfl m a 0 i (fun _ => 0) := ⟨_, rfl⟩
      rw [← em1]
      refine zT.iload_n 1 dX13_plain_2 rfl rfl ?_
      refine zT.bipush dX13_plain_3 ?_
      refine zT.ic_ge (tgt := 18) dX13_plain_5 (by decide) (by first | assumption | exact zq_i _ | exact zand_i _ _ | exact zor_i _ _ | exact zxor_i _ _ | exact zN _ | omega) (by first | assumption | exact zq_i _ | exact zand_i _ _ | exact zor_i _ _ | exact zxor_i _ _ | exact zN _ | omega) (fun c5 => ?_) (fun c5 => ?_)
      · refine zT.aload_n 0 dX13_plain_18 rfl rfl ?_
        refine zT.iconst dX13_plain_19 ?_
        refine zT.iconst dX13_plain_20 ?_
        refine zT.iast dX13_plain_21 ha (by first | assumption | exact zq_i _ | exact zand_i _ _ | exact zor_i _ _ | exact zxor_i _ _ | exact zN _ | omega) (by rw [hn]; first | assumption | exact zq_i _ | exact zand_i _ _ | exact zor_i _ _ | exact zxor_i _ _ | exact zN _ | omega) (by first | assumption | exact zq_i _ | exact zand_i _ _ | exact zor_i _ _ | exact zxor_i _ _ | exact zN _ | omega) ?_
        obtain ⟨m2, em2⟩ : ∃ z, z = zup m1 a 0 2 := ⟨_, rfl⟩
        rw [← em2]
        refine zT.aload_n 0 dX13_plain_22 rfl rfl ?_
        refine zT.iconst dX13_plain_23 ?_
        refine zT.bipush dX13_plain_24 ?_
        refine zT.iast dX13_plain_26 ha (by first | assumption | exact zq_i _ | exact zand_i _ _ | exact zor_i _ _ | exact zxor_i _ _ | exact zN _ | omega) (by rw [hn]; first | assumption | exact zq_i _ | exact zand_i _ _ | exact zor_i _ _ | exact zxor_i _ _ | exact zN _ | omega) (by first | assumption | exact zq_i _ | exact zand_i _ _ | exact zor_i _ _ | exact zxor_i _ _ | exact zN _ | omega) ?_
        obtain ⟨m3, em3⟩ : ∃ z, z = zup m2 a 2 10 := ⟨_, rfl⟩
        rw [← em3]
        refine zT.aload_n 0 dX13_plain_27 rfl rfl ?_
        refine zT.iconst dX13_plain_28 ?_
        refine zT.iconst dX13_plain_29 ?_
        refine zT.iast dX13_plain_30 ha (by first | assumption | exact zq_i _ | exact zand_i _ _ | exact zor_i _ _ | exact zxor_i _ _ | exact zN _ | omega) (by rw [hn]; first | assumption | exact zq_i _ | exact zand_i _ _ | exact zor_i _ _ | exact zxor_i _ _ | exact zN _ | omega) (by first | assumption | exact zq_i _ | exact zand_i _ _ | exact zor_i _ _ | exact zxor_i _ _ | exact zN _ | omega) ?_
        obtain ⟨m4, em4⟩ : ∃ z, z = zup m3 a 4 1 := ⟨_, rfl⟩
        rw [← em4]
        refine zT.vret dX13_plain_31 rfl ?_
        refine ⟨rfl, rfl, ?_⟩
        have ei : i = 58 := by omega
        subst ei
        funext b_ j_
        simp only [em4, em3, em2, em1, zup, zfl, yplain, aK0]
        repeat' split
        all_goals first | omega | rfl
      · refine zT.aload_n 0 dX13_plain_8 rfl rfl ?_
        refine zT.iload_n 1 dX13_plain_9 rfl rfl ?_
        refine zT.iconst dX13_plain_10 ?_
        refine zT.iast dX13_plain_11 ha (by first | assumption | exact zq_i _ | exact zand_i _ _ | exact zor_i _ _ | exact zxor_i _ _ | exact zN _ | omega) (by rw [hn]; first | assumption | exact zq_i _ | exact zand_i _ _ | exact zor_i _ _ | exact zxor_i _ _ | exact zN _ | omega) (by first | assumption | exact zq_i _ | exact zand_i _ _ | exact zor_i _ _ | exact zxor_i _ _ | exact zN _ | omega) ?_
        obtain ⟨m5, em5⟩ : ∃ z, z = zup m1 a i 0 := ⟨_, rfl⟩
        rw [← em5]
        refine zT.iinc 1 dX13_plain_12 rfl (by decide) (zpre1 rfl (zcR _)) ?_
        show zT G _ _ _ [zR a, zI (i + 1)] _ _ _ _ _ _ _
        refine zT.goto (tgt := 2) dX13_plain_15 (by decide) ?_
        have eb2 : m5 = zfl m a 0 (i + 1) (fun _ => 0) := by
          rw [em5, em1]
          exact zfl_s (f := fun _ => 0) i0
        refine zT.meq eb2 ?_
        exact ih2 _ (by first | assumption | exact zq_i _ | exact zand_i _ _ | exact zor_i _ _ | exact zxor_i _ _ | exact zN _ | omega) (by first | assumption | exact zq_i _ | exact zand_i _ _ | exact zor_i _ _ | exact zxor_i _ _ | exact zN _ | omega) (by omega)
  have eb2 : m = zfl m a 0 0 (fun _ => 0) := by
    exact zfl_0.symm
  refine zT.meq eb2 ?_
  exact L2 _ _ (by first | assumption | exact zq_i _ | exact zand_i _ _ | exact zor_i _ _ | exact zxor_i _ _ | exact zN _ | omega) (by first | assumption | exact zq_i _ | exact zand_i _ _ | exact zor_i _ _ | exact zxor_i _ _ | exact zN _ | omega) (Nat.lt_succ_self _)

/-- behind lay() -/
def ylaid (m : zMm) (b : Int) : zMm := if m b 1023 = 0 then yplain (zup m b 1023 1) (b + 2) else m
theorem C_X13_lay {G : zG} {S : zS} {m : zMm} {b : Int} (hb : zMod S b) : zC G mX13_lay 1 0 0 [zR b] S m (zDet none S (ylaid m b)) zNX := by
  refine zC.of [zR b] (by decide) rfl (zEn1 (zcR _) (zEn0 (by simp))) rfl ?_
  obtain ⟨Q9, eQ9⟩ : ∃ z : zQt, z = (zDet none S (ylaid m b)) := ⟨_, rfl⟩
  rw [← eQ9]
  refine zT.aload_n 0 dX13_lay_0 rfl rfl ?_
  refine zT.getI dX13_lay_1 fX13_209 rfl (zMod.k hb) (j := 23) (by decide) rfl (fun z1 => ?_)
  refine zT.if_eq (tgt := 8) dX13_lay_4 (by decide) (by first | assumption | exact zq_i _ | exact zand_i _ _ | exact zor_i _ _ | exact zxor_i _ _ | exact zN _ | omega) (fun c4 => ?_) (fun c4 => ?_)
  · refine zT.aload_n 0 dX13_lay_8 rfl rfl ?_
    refine zT.iconst dX13_lay_9 ?_
    refine zT.putZ dX13_lay_10 fX13_209 zs_1023 rfl (zMod.k hb) (j := 23) (by decide) rfl (by first | assumption | exact zq_i _ | exact zand_i _ _ | exact zor_i _ _ | exact zxor_i _ _ | exact zN _ | omega) ?_
    obtain ⟨m1, em1⟩ : ∃ z, z = zup m b 1023 1 := ⟨_, rfl⟩
    rw [← em1]
    refine zT.aload_n 0 dX13_lay_13 rfl rfl ?_
    refine zT.getF dX13_lay_14 fX13_13 rfl (zMod.k hb) (j := 14) (by decide) rfl (zMod.f1014 hb) ?_
    refine zT.callS (M' := mX13_plain) [zR (b + 2)] [] dX13_lay_17 kX13_213 rfl rfl (C_X13_plain (zMod.a1014 hb) (zMod.n1014 hb) (by omega)) (by decide) (k' := 0) (n' := 0) (by omega) (by omega) (by decide) (zdk (v := none) ?_) (fun _ _ _ _ h => h.elim)
    show zT G _ _ _ _ [] _ _ _ _ _ _
    obtain ⟨m2, em2⟩ : ∃ z, z = yplain m1 (b + 2) := ⟨_, rfl⟩
    rw [← em2]
    refine zT.vret dX13_lay_20 rfl ?_
    rw [eQ9]
    exact ⟨rfl, rfl, by unfold ylaid; rw [if_pos (by omega)]; simp only [*]⟩
  · refine zT.vret dX13_lay_7 rfl ?_
    rw [eQ9]
    exact ⟨rfl, rfl, by unfold ylaid; rw [if_neg (by omega)]⟩

/-- the plan laid into the q-th snapshot; the snapshots moved down -/
def yput (m : zMm) (b q : Int) : zMm := zup (zfl m (b + 5) (2001 * q) (2001 * q + 2001) (fun j => m (b + 2) (58 + (j - 2001 * q)))) b 1022 (q + 1)
def ydown (m : zMm) (b : Int) : zMm := zup (zfl m (b + 5) 0 14007 (fun j => m (b + 5) (j + 2001))) b 1022 7
def ysnap (m : zMm) (b : Int) : zMm := if m b 1022 = 8 then yput (ydown m b) b 7 else yput m b (m b 1022)
theorem yput_n {m : zMm} {b q : Int} : yput m b q b 1022 = q + 1 := zup_at
theorem C_X13_snap {G : zG} {S : zS} {m : zMm} {b : Int} (hb : zMod S b) (h0 : 0 ≤ m b 1022) (h1 : m b 1022 ≤ 8) : zC G mX13_snap 0 0 0 [zR b] S m (zDet none S (ysnap m b)) zNX := by
  refine zC.of [zR b, zU] (by decide) rfl (zEn1 (zcR _) (zEn0 (by simp))) rfl ?_
  refine zT.rng hb.a1014 (fun zN => ?_)
  refine zT.rng hb.a1017 (fun zN2 => ?_)
  obtain ⟨Q9, eQ9⟩ : ∃ z : zQt, z = (zDet none S (ysnap m b)) := ⟨_, rfl⟩
  rw [← eQ9]
  refine zT.aload_n 0 dX13_snap_0 rfl rfl ?_
  refine zT.getI dX13_snap_1 fX13_268 rfl (zMod.k hb) (j := 22) (by decide) rfl (fun z1 => ?_)
  refine zT.bipush dX13_snap_4 ?_
  refine zT.ic_ne (tgt := 52) dX13_snap_6 (by decide) (by first | assumption | exact zN _ | exact zN2 _ | omega) (by first | assumption | exact zN _ | exact zN2 _ | omega) (fun c6 => ?_) (fun c6 => ?_)
  · refine zT.iconst dX13_snap_52 ?_
    refine zT.istore_n 1 dX13_snap_53 rfl (by decide) (zpre1 rfl (zcR _)) ?_
    show zT G _ _ _ [zR b, zI 0] _ _ _ _ _ _ _
    have hq : 0 ≤ m b 1022 ∧ m b 1022 ≤ 7 := by first | omega | (rw [Int.add_zero, zup_at]; omega)
    have L54 : ∀ (N : Nat) (k : Int), (0 ≤ k) → (k ≤ 2001) → ((2001 - k).toNat) < N → zT G mX13_snap 0 54 [zR b, zI k] [] S (zfl m (b + 5) (2001 * m b 1022) (2001 * m b 1022 + k) (fun j => m (b + 2) (58 + (j - 2001 * m b 1022)))) 0 0 Q9 zNX := by
      intro N
      induction N with
      | zero => intro k k0 k1 hN; exact absurd hN (Nat.not_lt_zero _)
      | succ N ih54 =>
        intro k k0 k1 hN
        obtain ⟨m1, em1⟩ : ∃ z, z = zfl m (b + 5) (2001 * m b 1022) (2001 * m b 1022 + k) (fun j => m (b + 2) (58 + (j - 2001 * m b 1022))) := ⟨_, rfl⟩
        rw [← em1]
        refine zT.iload_n 1 dX13_snap_54 rfl rfl ?_
        refine zT.sipush dX13_snap_55 ?_
        refine zT.ic_ge (tgt := 91) dX13_snap_58 (by decide) (by first | assumption | exact zN _ | exact zN2 _ | omega) (by first | assumption | exact zN _ | exact zN2 _ | omega) (fun c58 => ?_) (fun c58 => ?_)
        · refine zT.aload_n 0 dX13_snap_91 rfl rfl ?_
          refine zT.dup dX13_snap_92 (zcR _) ?_
          refine zT.getI dX13_snap_93 fX13_268 rfl (zMod.k hb) (j := 22) (by decide) rfl (fun z93 => ?_)
          have r93 : m1 b 1022 = m b 1022 := by rw [em1, zfl_ne (by omega)]
          rw [r93] at z93 ⊢
          refine zT.iconst dX13_snap_96 ?_
          refine zT.iadd dX13_snap_97 ?_
          refine zT.putI dX13_snap_98 fX13_268 zs_1022 rfl (zMod.k hb) (j := 22) (by decide) rfl (by first | assumption | exact zN _ | exact zN2 _ | omega) ?_
          obtain ⟨m2, em2⟩ : ∃ z, z = zup m1 b 1022 ((m b 1022) + 1) := ⟨_, rfl⟩
          rw [← em2]
          refine zT.vret dX13_snap_101 rfl ?_
          rw [eQ9]
          refine ⟨rfl, rfl, ?_⟩
          unfold ysnap yput ydown
          subst_vars
          first | (rw [if_neg (by omega), show k = 2001 by omega]) | (rw [if_pos (by omega)]; simp only [zup_at]; rw [show i = 16008 by omega, show k = 2001 by omega, show m b 1022 = 8 by omega]; rfl)
        · refine zT.aload_n 0 dX13_snap_61 rfl rfl ?_
          refine zT.getF dX13_snap_62 fX13_22 rfl (zMod.k hb) (j := 17) (by decide) rfl (zMod.f1017 hb) ?_
          refine zT.sipush dX13_snap_65 ?_
          refine zT.aload_n 0 dX13_snap_68 rfl rfl ?_
          refine zT.getI dX13_snap_69 fX13_268 rfl (zMod.k hb) (j := 22) (by decide) rfl (fun z69 => ?_)
          have r69 : m1 b 1022 = m b 1022 := by rw [em1, zfl_ne (by omega)]
          rw [r69] at z69 ⊢
          refine zT.imul dX13_snap_72 ?_
          refine zT.iload_n 1 dX13_snap_73 rfl rfl ?_
          refine zT.iadd dX13_snap_74 ?_
          refine zT.aload_n 0 dX13_snap_75 rfl rfl ?_
          refine zT.getF dX13_snap_76 fX13_13 rfl (zMod.k hb) (j := 14) (by decide) rfl (zMod.f1014 hb) ?_
          refine zT.bipush dX13_snap_79 ?_
          refine zT.iload_n 1 dX13_snap_81 rfl rfl ?_
          refine zT.iadd dX13_snap_82 ?_
          refine zT.iald dX13_snap_83 (zMod.a1014 hb) (by first | assumption | exact zN _ | exact zN2 _ | omega) (by rw [(zMod.n1014 hb)]; first | assumption | exact zN _ | exact zN2 _ | omega) (fun z83 => ?_)
          have r83 : m1 (b + 2) (58 + k) = m (b + 2) (58 + k) := by rw [em1, zfl_ne (by omega)]
          rw [r83] at z83 ⊢
          refine zT.iast dX13_snap_84 (zMod.a1017 hb) (by first | assumption | exact zN _ | exact zN2 _ | omega) (by rw [(zMod.n1017 hb)]; first | assumption | exact zN _ | exact zN2 _ | omega) (by first | assumption | exact zN _ | exact zN2 _ | omega) ?_
          obtain ⟨m3, em3⟩ : ∃ z, z = zup m1 (b + 5) ((2001 * (m b 1022)) + k) (m (b + 2) (58 + k)) := ⟨_, rfl⟩
          rw [← em3]
          refine zT.iinc 1 dX13_snap_85 rfl (by decide) (zpre1 rfl (zcR _)) ?_
          show zT G _ _ _ [zR b, zI (k + 1)] _ _ _ _ _ _ _
          refine zT.goto (tgt := 54) dX13_snap_88 (by decide) ?_
          have eb54 : m3 = zfl m (b + 5) (2001 * m b 1022) (2001 * m b 1022 + (k + 1)) (fun j => m (b + 2) (58 + (j - 2001 * m b 1022))) := by
            rw [em3, em1, show 2001 * m b 1022 + (k + 1) = 2001 * m b 1022 + k + 1 by omega]
            have h := zfl_s (m := m) (a := b + 5) (f := (fun j => m (b + 2) (58 + (j - 2001 * m b 1022)))) (show 2001 * m b 1022 ≤ 2001 * m b 1022 + k by omega)
            rw [← h]
            congr 2
            omega
          refine zT.meq eb54 ?_
          exact ih54 _ (by first | assumption | exact zN _ | exact zN2 _ | omega) (by first | assumption | exact zN _ | exact zN2 _ | omega) (by omega)
    have eb54 : m = zfl m (b + 5) (2001 * m b 1022) (2001 * m b 1022 + 0) (fun j => m (b + 2) (58 + (j - 2001 * m b 1022))) := by
      rw [Int.add_zero]
      exact zfl_0.symm
    refine zT.meq eb54 ?_
    exact L54 _ _ (by first | assumption | exact zN _ | exact zN2 _ | omega) (by first | assumption | exact zN _ | exact zN2 _ | omega) (Nat.lt_succ_self _)
  · refine zT.sipush dX13_snap_9 ?_
    refine zT.istore_n 1 dX13_snap_12 rfl (by decide) (zpre1 rfl (zcR _)) ?_
    show zT G _ _ _ [zR b, zI 2001] _ _ _ _ _ _ _
    have L13 : ∀ (N : Nat) (i : Int), (2001 ≤ i) → (i ≤ 16008) → ((16008 - i).toNat) < N → zT G mX13_snap 0 13 [zR b, zI i] [] S (zfl m (b + 5) 0 (i - 2001) (fun j => m (b + 5) (j + 2001))) 0 0 Q9 zNX := by
      intro N
      induction N with
      | zero => intro i i0 i1 hN; exact absurd hN (Nat.not_lt_zero _)
      | succ N ih13 =>
        intro i i0 i1 hN
        obtain ⟨m4, em4⟩ : ∃ z, z = zfl m (b + 5) 0 (i - 2001) (fun j => m (b + 5) (j + 2001)) := ⟨_, rfl⟩
        rw [← em4]
        refine zT.iload_n 1 dX13_snap_13 rfl rfl ?_
        refine zT.sipush dX13_snap_14 ?_
        refine zT.ic_ge (tgt := 42) dX13_snap_17 (by decide) (by first | assumption | exact zN _ | exact zN2 _ | omega) (by first | assumption | exact zN _ | exact zN2 _ | omega) (fun c17 => ?_) (fun c17 => ?_)
        · refine zT.aload_n 0 dX13_snap_42 rfl rfl ?_
          refine zT.dup dX13_snap_43 (zcR _) ?_
          refine zT.getI dX13_snap_44 fX13_268 rfl (zMod.k hb) (j := 22) (by decide) rfl (fun z44 => ?_)
          have r44 : m4 b 1022 = m b 1022 := by rw [em4, zfl_ne (by omega)]
          rw [r44] at z44 ⊢
          refine zT.iconst dX13_snap_47 ?_
          refine zT.isub dX13_snap_48 ?_
          refine zT.putI dX13_snap_49 fX13_268 zs_1022 rfl (zMod.k hb) (j := 22) (by decide) rfl (by first | assumption | exact zN _ | exact zN2 _ | omega) ?_
          obtain ⟨m5, em5⟩ : ∃ z, z = zup m4 b 1022 ((m b 1022) - 1) := ⟨_, rfl⟩
          rw [← em5]
          refine zT.iconst dX13_snap_52 ?_
          refine zT.istore_n 1 dX13_snap_53 rfl (by decide) (zpre1 rfl (zcR _)) ?_
          show zT G _ _ _ [zR b, zI 0] _ _ _ _ _ _ _
          have hq : 0 ≤ m5 b 1022 ∧ m5 b 1022 ≤ 7 := by first | omega | (rw [em5, zup_at]; omega)
          have L54 : ∀ (N : Nat) (k : Int), (0 ≤ k) → (k ≤ 2001) → ((2001 - k).toNat) < N → zT G mX13_snap 0 54 [zR b, zI k] [] S (zfl m5 (b + 5) (2001 * m5 b 1022) (2001 * m5 b 1022 + k) (fun j => m5 (b + 2) (58 + (j - 2001 * m5 b 1022)))) 0 0 Q9 zNX := by
            intro N
            induction N with
            | zero => intro k k0 k1 hN; exact absurd hN (Nat.not_lt_zero _)
            | succ N ih54 =>
              intro k k0 k1 hN
              obtain ⟨m6, em6⟩ : ∃ z, z = zfl m5 (b + 5) (2001 * m5 b 1022) (2001 * m5 b 1022 + k) (fun j => m5 (b + 2) (58 + (j - 2001 * m5 b 1022))) := ⟨_, rfl⟩
              rw [← em6]
              refine zT.iload_n 1 dX13_snap_54 rfl rfl ?_
              refine zT.sipush dX13_snap_55 ?_
              refine zT.ic_ge (tgt := 91) dX13_snap_58 (by decide) (by first | assumption | exact zN _ | exact zN2 _ | omega) (by first | assumption | exact zN _ | exact zN2 _ | omega) (fun c58 => ?_) (fun c58 => ?_)
              · refine zT.aload_n 0 dX13_snap_91 rfl rfl ?_
                refine zT.dup dX13_snap_92 (zcR _) ?_
                refine zT.getI dX13_snap_93 fX13_268 rfl (zMod.k hb) (j := 22) (by decide) rfl (fun z93 => ?_)
                have r93 : m6 b 1022 = m5 b 1022 := by rw [em6, zfl_ne (by omega)]
                rw [r93] at z93 ⊢
                refine zT.iconst dX13_snap_96 ?_
                refine zT.iadd dX13_snap_97 ?_
                refine zT.putI dX13_snap_98 fX13_268 zs_1022 rfl (zMod.k hb) (j := 22) (by decide) rfl (by first | assumption | exact zN _ | exact zN2 _ | omega) ?_
                obtain ⟨m7, em7⟩ : ∃ z, z = zup m6 b 1022 ((m5 b 1022) + 1) := ⟨_, rfl⟩
                rw [← em7]
                refine zT.vret dX13_snap_101 rfl ?_
                rw [eQ9]
                refine ⟨rfl, rfl, ?_⟩
                unfold ysnap yput ydown
                subst_vars
                first | (rw [if_neg (by omega), show k = 2001 by omega]) | (rw [if_pos (by omega)]; simp only [zup_at]; rw [show i = 16008 by omega, show k = 2001 by omega, show m b 1022 = 8 by omega]; rfl)
              · refine zT.aload_n 0 dX13_snap_61 rfl rfl ?_
                refine zT.getF dX13_snap_62 fX13_22 rfl (zMod.k hb) (j := 17) (by decide) rfl (zMod.f1017 hb) ?_
                refine zT.sipush dX13_snap_65 ?_
                refine zT.aload_n 0 dX13_snap_68 rfl rfl ?_
                refine zT.getI dX13_snap_69 fX13_268 rfl (zMod.k hb) (j := 22) (by decide) rfl (fun z69 => ?_)
                have r69 : m6 b 1022 = m5 b 1022 := by rw [em6, zfl_ne (by omega)]
                rw [r69] at z69 ⊢
                refine zT.imul dX13_snap_72 ?_
                refine zT.iload_n 1 dX13_snap_73 rfl rfl ?_
                refine zT.iadd dX13_snap_74 ?_
                refine zT.aload_n 0 dX13_snap_75 rfl rfl ?_
                refine zT.getF dX13_snap_76 fX13_13 rfl (zMod.k hb) (j := 14) (by decide) rfl (zMod.f1014 hb) ?_
                refine zT.bipush dX13_snap_79 ?_
                refine zT.iload_n 1 dX13_snap_81 rfl rfl ?_
                refine zT.iadd dX13_snap_82 ?_
                refine zT.iald dX13_snap_83 (zMod.a1014 hb) (by first | assumption | exact zN _ | exact zN2 _ | omega) (by rw [(zMod.n1014 hb)]; first | assumption | exact zN _ | exact zN2 _ | omega) (fun z83 => ?_)
                have r83 : m6 (b + 2) (58 + k) = m5 (b + 2) (58 + k) := by rw [em6, zfl_ne (by omega)]
                rw [r83] at z83 ⊢
                refine zT.iast dX13_snap_84 (zMod.a1017 hb) (by first | assumption | exact zN _ | exact zN2 _ | omega) (by rw [(zMod.n1017 hb)]; first | assumption | exact zN _ | exact zN2 _ | omega) (by first | assumption | exact zN _ | exact zN2 _ | omega) ?_
                obtain ⟨m8, em8⟩ : ∃ z, z = zup m6 (b + 5) ((2001 * (m5 b 1022)) + k) (m5 (b + 2) (58 + k)) := ⟨_, rfl⟩
                rw [← em8]
                refine zT.iinc 1 dX13_snap_85 rfl (by decide) (zpre1 rfl (zcR _)) ?_
                show zT G _ _ _ [zR b, zI (k + 1)] _ _ _ _ _ _ _
                refine zT.goto (tgt := 54) dX13_snap_88 (by decide) ?_
                have eb54 : m8 = zfl m5 (b + 5) (2001 * m5 b 1022) (2001 * m5 b 1022 + (k + 1)) (fun j => m5 (b + 2) (58 + (j - 2001 * m5 b 1022))) := by
                  rw [em8, em6, show 2001 * m5 b 1022 + (k + 1) = 2001 * m5 b 1022 + k + 1 by omega]
                  have h := zfl_s (m := m5) (a := b + 5) (f := (fun j => m5 (b + 2) (58 + (j - 2001 * m5 b 1022)))) (show 2001 * m5 b 1022 ≤ 2001 * m5 b 1022 + k by omega)
                  rw [← h]
                  congr 2
                  omega
                refine zT.meq eb54 ?_
                exact ih54 _ (by first | assumption | exact zN _ | exact zN2 _ | omega) (by first | assumption | exact zN _ | exact zN2 _ | omega) (by omega)
          have eb54 : m5 = zfl m5 (b + 5) (2001 * m5 b 1022) (2001 * m5 b 1022 + 0) (fun j => m5 (b + 2) (58 + (j - 2001 * m5 b 1022))) := by
            rw [Int.add_zero]
            exact zfl_0.symm
          refine zT.meq eb54 ?_
          exact L54 _ _ (by first | assumption | exact zN _ | exact zN2 _ | omega) (by first | assumption | exact zN _ | exact zN2 _ | omega) (Nat.lt_succ_self _)
        · refine zT.aload_n 0 dX13_snap_20 rfl rfl ?_
          refine zT.getF dX13_snap_21 fX13_22 rfl (zMod.k hb) (j := 17) (by decide) rfl (zMod.f1017 hb) ?_
          refine zT.iload_n 1 dX13_snap_24 rfl rfl ?_
          refine zT.sipush dX13_snap_25 ?_
          refine zT.isub dX13_snap_28 ?_
          refine zT.aload_n 0 dX13_snap_29 rfl rfl ?_
          refine zT.getF dX13_snap_30 fX13_22 rfl (zMod.k hb) (j := 17) (by decide) rfl (zMod.f1017 hb) ?_
          refine zT.iload_n 1 dX13_snap_33 rfl rfl ?_
          refine zT.iald dX13_snap_34 (zMod.a1017 hb) (by first | assumption | exact zN _ | exact zN2 _ | omega) (by rw [(zMod.n1017 hb)]; first | assumption | exact zN _ | exact zN2 _ | omega) (fun z34 => ?_)
          have r34 : m4 (b + 5) i = m (b + 5) i := by rw [em4, zfl_ne (by omega)]
          rw [r34] at z34 ⊢
          refine zT.iast dX13_snap_35 (zMod.a1017 hb) (by first | assumption | exact zN _ | exact zN2 _ | omega) (by rw [(zMod.n1017 hb)]; first | assumption | exact zN _ | exact zN2 _ | omega) (by first | assumption | exact zN _ | exact zN2 _ | omega) ?_
          obtain ⟨m9, em9⟩ : ∃ z, z = zup m4 (b + 5) (i - 2001) (m (b + 5) i) := ⟨_, rfl⟩
          rw [← em9]
          refine zT.iinc 1 dX13_snap_36 rfl (by decide) (zpre1 rfl (zcR _)) ?_
          show zT G _ _ _ [zR b, zI (i + 1)] _ _ _ _ _ _ _
          refine zT.goto (tgt := 13) dX13_snap_39 (by decide) ?_
          have eb13 : m9 = zfl m (b + 5) 0 (i + 1 - 2001) (fun j => m (b + 5) (j + 2001)) := by
            rw [em9, em4, show i + 1 - 2001 = i - 2001 + 1 by omega]
            have h := zfl_s (m := m) (a := b + 5) (f := fun j => m (b + 5) (j + 2001)) (show (0 : Int) ≤ i - 2001 by omega)
            rw [← h, show i - 2001 + 2001 = i by omega]
          refine zT.meq eb13 ?_
          exact ih13 _ (by first | assumption | exact zN _ | exact zN2 _ | omega) (by first | assumption | exact zN _ | exact zN2 _ | omega) (by omega)
    have eb13 : m = zfl m (b + 5) 0 (2001 - 2001) (fun j => m (b + 5) (j + 2001)) := by
      exact zfl_0.symm
    refine zT.meq eb13 ?_
    exact L13 _ _ (by first | assumption | exact zN _ | exact zN2 _ | omega) (by first | assumption | exact zN _ | exact zN2 _ | omega) (Nat.lt_succ_self _)

