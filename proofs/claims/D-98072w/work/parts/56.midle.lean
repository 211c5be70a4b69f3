/-! PanSlicesModel.idle (written by gen/m_mean2.py) -/
def aTk (g : zGo) (p t j : Int) : Prop := g j 3 = p ∧ g j 2 ≤ t ∧ t < g j 2 + g j 4
theorem acnt_m {P : Int → Prop} {k n : Int} (h0 : 0 ≤ k) (h : k ≤ n) : acnt P k ≤ acnt P n := by
  obtain ⟨d, rfl⟩ : ∃ d : Nat, n = k + d := ⟨(n - k).toNat, by omega⟩
  clear h
  induction d with
  | zero => rw [show k + ((0 : Nat) : Int) = k by omega]; exact Int.le_refl _
  | succ d ih =>
    rw [show k + ((d + 1 : Nat) : Int) = k + d + 1 by omega]
    rcases acnt_s (P := P) (k := k + d) (by omega) with ⟨_, e⟩ | ⟨_, e⟩ <;> omega
theorem fIdle_s {n : Int} {g : zGo} {p t : Int} (hn : 0 ≤ n) (h : 0 ≤ t) : fIdle n g p (t + 1) = fIdle n g p t + (if acnt (aTk g p t) n = 0 then 1 else 0) := by
  unfold fIdle
  rw [zs_s h]
  have hp := acnt_p (P := aTk g p t) hn
  have hb := acnt_b (P := aTk g p t) hn
  by_cases e : acnt (aTk g p t) n = 0
  · rw [if_pos e, zq_f (fun q => by have q2 := hp.mpr q; clear q; omega)]
    omega
  · rw [if_neg e, zq_t (show ∃ j, 0 ≤ j ∧ j < n ∧ g j 3 = p ∧ g j 2 ≤ t ∧ t < g j 2 + g j 4 from hp.mp (by omega))]
    omega
theorem C_X13_idle {G : zG} {S : zS} {m : zMm} {b : Int} {A : zMm} (hb : zMod S b) (hA : yEq m b A) (hV : aVd A) {p : Int} (hp : zi p) : zC G mX13_idle 3 0 0 [zR b, zI p] S m (zDet (some (zI (if 0 ≤ p ∧ p < (aK (A 0 1023) (A 2)) 0 then fIdle (A 2 58) (aGo (A 2) 58) p (aends (aGo (A 2) 58) (A 2 58)) else -1))) S (ylaid (zup m b 1000 0) b)) zNX := by
  have ym := hA.R hV
  have nm := ym.n
  have sm := ym.s
  have rm := ym.r
  have hk := hV.ki.1
  have hk0 := hk.1
  have hp0 := hV.pl.1
  have hp1 := hV.pl.2.1
  have heb := aends_b hV.pl (Int.le_refl _)
  refine zC.of [zR b, zI p, zU, zU, zU, zU] (by decide) rfl (zEn1 (zcR _) (zEn1 (zcI _) (zEn0 (by simp)))) rfl ?_
  refine zT.rng hb.a1014 (fun zN => ?_)
  obtain ⟨Q9, eQ9⟩ : ∃ z : zQt, z = (zDet (some (zI (if 0 ≤ p ∧ p < (aK (A 0 1023) (A 2)) 0 then fIdle (A 2 58) (aGo (A 2) 58) p (aends (aGo (A 2) 58) (A 2 58)) else -1))) S (ylaid (zup m b 1000 0) b)) := ⟨_, rfl⟩
  rw [← eQ9]
  refine zT.aload_n 0 dX13_idle_0 rfl rfl ?_
  refine zT.iconst dX13_idle_1 ?_
  refine zT.putI dX13_idle_2 fX13_122 zs_1000 rfl (zMod.k hb) (j := 0) (by decide) rfl (by first | assumption | exact zq_i _ | exact zand_i _ _ | exact zor_i _ _ | exact zN _ | omega) ?_
  obtain ⟨m1, em1⟩ : ∃ z, z = zup m b 1000 0 := ⟨_, rfl⟩
  rw [← em1]
  have ym1 : yR m1 b A := by rw [em1]; exact ym.up (by omega)
  have nm1 := ym1.n
  have sm1 := ym1.s
  have rm1 := ym1.r
  refine zT.aload_n 0 dX13_idle_5 rfl rfl ?_
  refine zT.callV (M' := mX13_lay) (b := b) [] [] dX13_idle_6 kX13_202 rfl rfl (ci := 10) (r := (RX13, TX13, 62)) rfl (zMod.k hb) (C_X13_lay hb) (by decide) (k' := 0) (n' := 0) (by omega) (by omega) (by decide) (zdk (v := none) ?_) (fun _ _ _ _ h => h.elim)
  show zT G _ _ _ _ [] _ _ _ _ _ _
  obtain ⟨m2, em2⟩ : ∃ z, z = ylaid m1 b := ⟨_, rfl⟩
  rw [← em2]
  have ym2 : yL m2 b A := by rw [em2]; exact hA.L2 hV (fun j => by rw [em1, zup_ne (by omega)]) (by rw [em1, zup_ne (by omega)])
  have nm2 := ym2.1.n
  have sm2 := ym2.1.s
  have rm2 := ym2.1.r
  have g0 := ym2.2 0 (by omega) (by omega)
  refine zT.iload_n 1 dX13_idle_9 rfl rfl ?_
  refine zT.iconst dX13_idle_10 ?_
  refine zT.aload_n 0 dX13_idle_11 rfl rfl ?_
  refine zT.getF dX13_idle_12 fX13_13 rfl (zMod.k hb) (j := 14) (by decide) rfl (zMod.f1014 hb) ?_
  refine zT.iconst dX13_idle_15 ?_
  refine zT.iald dX13_idle_16 (zMod.a1014 hb) (by first | assumption | exact zq_i _ | exact zand_i _ _ | exact zor_i _ _ | exact zN _ | omega) (by rw [(zMod.n1014 hb)]; first | assumption | exact zq_i _ | exact zand_i _ _ | exact zor_i _ _ | exact zN _ | omega) (fun z16 => ?_)
  refine zT.iconst dX13_idle_17 ?_
  refine zT.isub dX13_idle_18 ?_
  refine zT.callS (M' := mX13_isIn) [zI p, zI 0, zI ((m2 (b + 2) 0) - 1)] [] dX13_idle_19 kX13_189 rfl rfl (C_X13_isIn (by first | assumption | exact zq_i _ | exact zand_i _ _ | exact zor_i _ _ | exact zN _ | omega) (by first | assumption | exact zq_i _ | exact zand_i _ _ | exact zor_i _ _ | exact zN _ | omega) (by first | assumption | exact zq_i _ | exact zand_i _ _ | exact zor_i _ _ | exact zN _ | omega)) (by decide) (k' := 0) (n' := 0) (by omega) (by omega) (by decide) (zdk (v := some (zI (zq (0 ≤ p ∧ p ≤ ((m2 (b + 2) 0) - 1))))) ?_) (fun _ _ _ _ h => h.elim)
  show zT G _ _ _ _ [zI (zq (0 ≤ p ∧ p ≤ ((m2 (b + 2) 0) - 1)))] _ _ _ _ _ _
  refine zT.if_neB (tgt := 27) dX13_idle_22 (by decide) (fun c22 => ?_) (fun c22 => ?_)
  · refine zT.iconst dX13_idle_27 ?_
    refine zT.istore_n 2 dX13_idle_28 rfl (by decide) (zpre1 rfl (zcI _)) ?_
    show zT G _ _ _ [zR b, zI p, zI 0, zU, zU, zU] _ _ _ _ _ _ _
    refine zT.iconst dX13_idle_29 ?_
    refine zT.istore_n 3 dX13_idle_30 rfl (by decide) (zpre1 rfl (zcI _)) ?_
    show zT G _ _ _ [zR b, zI p, zI 0, zI 0, zU, zU] _ _ _ _ _ _ _
    have L31 : ∀ (N : Nat) (t : Int) (v : Int), (0 ≤ t) → (t ≤ aends (aGo (A 2) 58) (A 2 58)) → (v = fIdle (A 2 58) (aGo (A 2) 58) p t) → (0 ≤ v ∧ v ≤ t) → ((aends (aGo (A 2) 58) (A 2 58) - t).toNat) < N → zT G mX13_idle 3 31 [zR b, zI p, zI v, zI t, zU, zU] [] S m2 0 0 Q9 zNX := by
      intro N
      induction N with
      | zero => intro t v t0 t1 hv hvb hN; exact absurd hN (Nat.not_lt_zero _)
      | succ N ih31 =>
        intro t v t0 t1 hv hvb hN
        refine zT.iload_n 3 dX13_idle_31 rfl rfl ?_
        refine zT.aload_n 0 dX13_idle_32 rfl rfl ?_
        refine zT.callV (M' := mX13_endsAt) (b := b) [] [zI t] dX13_idle_33 kX13_321 rfl rfl (ci := 10) (r := (RX13, TX13, 62)) rfl (zMod.k hb) (C_X13_endsAt hb (by first | assumption | exact zq_i _ | exact zand_i _ _ | exact zor_i _ _ | exact zN _ | omega)) (by decide) (k' := 0) (n' := 0) (by omega) (by omega) (by simp only [List.map, zcI, zcJ, zcR, List.sum_cons, List.sum_nil]; decide) (zdk (v := some (zI (yends m2 b (m2 (b + 2) 58)))) ?_) (fun _ _ _ _ h => h.elim)
        show zT G _ _ _ _ [zI (yends m2 b (m2 (b + 2) 58)), zI t] _ _ _ _ _ _
        have hze : yends m2 b (m2 (b + 2) 58) = aends (aGo (A 2) 58) (A 2 58) := by
          rw [nm2]
          exact yends_a ym2.1.g (Int.le_refl _)
        refine zT.ic_ge (tgt := 117) dX13_idle_36 (by decide) (by first | assumption | exact zq_i _ | exact zand_i _ _ | exact zor_i _ _ | exact zN _ | omega) (by first | assumption | exact zq_i _ | exact zand_i _ _ | exact zor_i _ _ | exact zN _ | omega) (fun c36 => ?_) (fun c36 => ?_)
        · refine zT.iload_n 2 dX13_idle_117 rfl rfl ?_
          refine zT.iret dX13_idle_118 rfl ?_
          rw [eQ9]
          exact ⟨by rw [if_pos (by omega), hv, show t = aends (aGo (A 2) 58) (A 2 58) by omega], rfl, by rw [em2, em1]⟩
        · refine zT.iconst dX13_idle_39 ?_
          refine zT.istore 4 dX13_idle_40 (by decide) (zpre1 rfl (zcI _)) ?_
          show zT G _ _ _ [zR b, zI p, zI v, zI t, zI 1, zU] _ _ _ _ _ _ _
          refine zT.iconst dX13_idle_42 ?_
          refine zT.istore 5 dX13_idle_43 (by decide) (zpre1 rfl (zcI _)) ?_
          show zT G _ _ _ [zR b, zI p, zI v, zI t, zI 1, zI 0] _ _ _ _ _ _ _
          have L45 : ∀ (N : Nat) (k : Int) (w : Int), (0 ≤ k) → (k ≤ (A 2 58)) → ((w = 1 ∧ acnt (aTk (aGo (A 2) 58) p t) k = 0) ∨ (w = 0 ∧ 0 < acnt (aTk (aGo (A 2) 58) p t) k)) → (((A 2 58) - k).toNat) < N → zT G mX13_idle 3 45 [zR b, zI p, zI v, zI t, zI w, zI k] [] S m2 0 0 Q9 zNX := by
            intro N
            induction N with
            | zero => intro k w k0 k1 hw hN; exact absurd hN (Nat.not_lt_zero _)
            | succ N ih45 =>
              intro k w k0 k1 hw hN
              refine zT.iload 5 dX13_idle_45 rfl ?_
              refine zT.aload_n 0 dX13_idle_47 rfl rfl ?_
              refine zT.callV (M' := mX13_goes) (b := b) [] [zI k] dX13_idle_48 kX13_284 rfl rfl (ci := 10) (r := (RX13, TX13, 62)) rfl (zMod.k hb) (C_X13_goes hb) (by decide) (k' := 0) (n' := 0) (by omega) (by omega) (by simp only [List.map, zcI, zcJ, zcR, List.sum_cons, List.sum_nil]; decide) (zdk (v := some (zI (m2 (b + 2) (58)))) ?_) (fun _ _ _ _ h => h.elim)
              show zT G _ _ _ _ [zI (m2 (b + 2) (58)), zI k] _ _ _ _ _ _
              refine zT.ic_ge (tgt := 103) dX13_idle_51 (by decide) (by first | assumption | exact zq_i _ | exact zand_i _ _ | exact zor_i _ _ | exact zN _ | omega) (by first | assumption | exact zq_i _ | exact zand_i _ _ | exact zor_i _ _ | exact zN _ | omega) (fun c51 => ?_) (fun c51 => ?_)
              · have hmn := acnt_m (P := (aTk (aGo (A 2) 58) p t)) k0 k1
                have hkn : k = A 2 58 → acnt (aTk (aGo (A 2) 58) p t) (A 2 58) = acnt (aTk (aGo (A 2) 58) p t) k := fun e => by rw [e]
                refine zT.iload 4 dX13_idle_103 rfl ?_
                refine zT.if_eq (tgt := 111) dX13_idle_105 (by decide) (by first | assumption | exact zq_i _ | exact zand_i _ _ | exact zor_i _ _ | exact zN _ | omega) (fun c105 => ?_) (fun c105 => ?_)
                · refine zT.iinc 3 dX13_idle_111 rfl (by decide) (zpre1 rfl (zcI _)) ?_
                  show zT G _ _ _ [zR b, zI p, zI v, zI (t + 1), zI w, zI k] _ _ _ _ _ _ _
                  refine zT.goto (tgt := 31) dX13_idle_114 (by decide) ?_
                  refine zT.loc (V' := [zR b, zI p, zI v, zI (t + 1), zU, zU]) ?_ ⟨Or.inr rfl, Or.inr rfl, Or.inr rfl, Or.inr rfl, Or.inl rfl, Or.inl rfl, trivial⟩
                  exact ih31 _ _ (by first | assumption | exact zq_i _ | exact zand_i _ _ | exact zor_i _ _ | exact zN _ | omega) (by first | assumption | exact zq_i _ | exact zand_i _ _ | exact zor_i _ _ | exact zN _ | omega) (by
                      rw [fIdle_s hp0 t0, ← hv]
                      first
                        | (rw [if_pos (by omega)]; done)
                        | (rw [if_neg (by omega)]; omega)) (by first | assumption | exact zq_i _ | exact zand_i _ _ | exact zor_i _ _ | exact zN _ | omega) (by omega)
                · refine zT.iinc 2 dX13_idle_108 rfl (by decide) (zpre1 rfl (zcI _)) ?_
                  show zT G _ _ _ [zR b, zI p, zI (v + 1), zI t, zI w, zI k] _ _ _ _ _ _ _
                  refine zT.iinc 3 dX13_idle_111 rfl (by decide) (zpre1 rfl (zcI _)) ?_
                  show zT G _ _ _ [zR b, zI p, zI (v + 1), zI (t + 1), zI w, zI k] _ _ _ _ _ _ _
                  refine zT.goto (tgt := 31) dX13_idle_114 (by decide) ?_
                  refine zT.loc (V' := [zR b, zI p, zI (v + 1), zI (t + 1), zU, zU]) ?_ ⟨Or.inr rfl, Or.inr rfl, Or.inr rfl, Or.inr rfl, Or.inl rfl, Or.inl rfl, trivial⟩
                  exact ih31 _ _ (by first | assumption | exact zq_i _ | exact zand_i _ _ | exact zor_i _ _ | exact zN _ | omega) (by first | assumption | exact zq_i _ | exact zand_i _ _ | exact zor_i _ _ | exact zN _ | omega) (by
                      rw [fIdle_s hp0 t0, ← hv]
                      first
                        | (rw [if_pos (by omega)]; done)
                        | (rw [if_neg (by omega)]; omega)) (by first | assumption | exact zq_i _ | exact zand_i _ _ | exact zor_i _ _ | exact zN _ | omega) (by omega)
              · refine zT.iload 4 dX13_idle_54 rfl ?_
                refine zT.if_eq (tgt := 103) dX13_idle_56 (by decide) (by first | assumption | exact zq_i _ | exact zand_i _ _ | exact zor_i _ _ | exact zN _ | omega) (fun c56 => ?_) (fun c56 => ?_)
                · have hmn := acnt_m (P := (aTk (aGo (A 2) 58) p t)) k0 k1
                  have hkn : k = A 2 58 → acnt (aTk (aGo (A 2) 58) p t) (A 2 58) = acnt (aTk (aGo (A 2) 58) p t) k := fun e => by rw [e]
                  refine zT.iload 4 dX13_idle_103 rfl ?_
                  refine zT.if_eq (tgt := 111) dX13_idle_105 (by decide) (by first | assumption | exact zq_i _ | exact zand_i _ _ | exact zor_i _ _ | exact zN _ | omega) (fun c105 => ?_) (fun c105 => ?_)
                  · refine zT.iinc 3 dX13_idle_111 rfl (by decide) (zpre1 rfl (zcI _)) ?_
                    show zT G _ _ _ [zR b, zI p, zI v, zI (t + 1), zI w, zI k] _ _ _ _ _ _ _
                    refine zT.goto (tgt := 31) dX13_idle_114 (by decide) ?_
                    refine zT.loc (V' := [zR b, zI p, zI v, zI (t + 1), zU, zU]) ?_ ⟨Or.inr rfl, Or.inr rfl, Or.inr rfl, Or.inr rfl, Or.inl rfl, Or.inl rfl, trivial⟩
                    exact ih31 _ _ (by first | assumption | exact zq_i _ | exact zand_i _ _ | exact zor_i _ _ | exact zN _ | omega) (by first | assumption | exact zq_i _ | exact zand_i _ _ | exact zor_i _ _ | exact zN _ | omega) (by
                        rw [fIdle_s hp0 t0, ← hv]
                        first
                          | (rw [if_pos (by omega)]; done)
                          | (rw [if_neg (by omega)]; omega)) (by first | assumption | exact zq_i _ | exact zand_i _ _ | exact zor_i _ _ | exact zN _ | omega) (by omega)
                  · refine zT.iinc 2 dX13_idle_108 rfl (by decide) (zpre1 rfl (zcI _)) ?_
                    show zT G _ _ _ [zR b, zI p, zI (v + 1), zI t, zI w, zI k] _ _ _ _ _ _ _
                    refine zT.iinc 3 dX13_idle_111 rfl (by decide) (zpre1 rfl (zcI _)) ?_
                    show zT G _ _ _ [zR b, zI p, zI (v + 1), zI (t + 1), zI w, zI k] _ _ _ _ _ _ _
                    refine zT.goto (tgt := 31) dX13_idle_114 (by decide) ?_
                    refine zT.loc (V' := [zR b, zI p, zI (v + 1), zI (t + 1), zU, zU]) ?_ ⟨Or.inr rfl, Or.inr rfl, Or.inr rfl, Or.inr rfl, Or.inl rfl, Or.inl rfl, trivial⟩
                    exact ih31 _ _ (by first | assumption | exact zq_i _ | exact zand_i _ _ | exact zor_i _ _ | exact zN _ | omega) (by first | assumption | exact zq_i _ | exact zand_i _ _ | exact zor_i _ _ | exact zN _ | omega) (by
                        rw [fIdle_s hp0 t0, ← hv]
                        first
                          | (rw [if_pos (by omega)]; done)
                          | (rw [if_neg (by omega)]; omega)) (by first | assumption | exact zq_i _ | exact zand_i _ _ | exact zor_i _ _ | exact zN _ | omega) (by omega)
                · have ge : m2 (b + 2) (59 + 5 * k + 3) = aGo (A 2) 58 k 3 ∧ m2 (b + 2) (59 + 5 * k + 2) = aGo (A 2) 58 k 2 ∧ m2 (b + 2) (59 + 5 * k + 4) = aGo (A 2) 58 k 4 := ⟨ym2.1.g.2 k 3 (by omega) (by omega) (by omega) (by omega), ym2.1.g.2 k 2 (by omega) (by omega) (by omega) (by omega), ym2.1.g.2 k 4 (by omega) (by omega) (by omega) (by omega)⟩
                  have gv := hV.pl.2.2 k (by omega) (by omega)
                  refine zT.aload_n 0 dX13_idle_59 rfl rfl ?_
                  refine zT.iload 5 dX13_idle_60 rfl ?_
                  refine zT.iconst dX13_idle_62 ?_
                  refine zT.callV (M' := mX13_go5) (b := b) [zI k, zI 3] [] dX13_idle_63 kX13_280 rfl rfl (ci := 10) (r := (RX13, TX13, 62)) rfl (zMod.k hb) (C_X13_go5 hb (by first | assumption | exact zq_i _ | exact zand_i _ _ | exact zor_i _ _ | exact zN _ | omega) (by first | assumption | exact zq_i _ | exact zand_i _ _ | exact zor_i _ _ | exact zN _ | omega)) (by decide) (k' := 0) (n' := 0) (by omega) (by omega) (by decide) (zdk (v := some (zI (m2 (b + 2) (59 + 5 * k + 3)))) ?_) (fun _ _ _ _ h => h.elim)
                  show zT G _ _ _ _ [zI (m2 (b + 2) (59 + 5 * k + 3))] _ _ _ _ _ _
                  refine zT.iload_n 1 dX13_idle_66 rfl rfl ?_
                  refine zT.ic_ne (tgt := 90) dX13_idle_67 (by decide) (by first | assumption | exact zq_i _ | exact zand_i _ _ | exact zor_i _ _ | exact zN _ | omega) (by first | assumption | exact zq_i _ | exact zand_i _ _ | exact zor_i _ _ | exact zN _ | omega) (fun c67 => ?_) (fun c67 => ?_)
                  · refine zT.iconst dX13_idle_90 ?_
                    refine zT.goto (tgt := 95) dX13_idle_91 (by decide) ?_
                    refine zT.istore 4 dX13_idle_95 (by decide) (zpre1 rfl (zcI _)) ?_
                    show zT G _ _ _ [zR b, zI p, zI v, zI t, zI 1, zI k] _ _ _ _ _ _ _
                    refine zT.iinc 5 dX13_idle_97 rfl (by decide) (zpre1 rfl (zcI _)) ?_
                    show zT G _ _ _ [zR b, zI p, zI v, zI t, zI 1, zI (k + 1)] _ _ _ _ _ _ _
                    refine zT.goto (tgt := 45) dX13_idle_100 (by decide) ?_
                    exact ih45 _ _ (by first | assumption | exact zq_i _ | exact zand_i _ _ | exact zor_i _ _ | exact zN _ | omega) (by first | assumption | exact zq_i _ | exact zand_i _ _ | exact zor_i _ _ | exact zN _ | omega) (by rcases acnt_s (P := (aTk (aGo (A 2) 58) p t)) k0 with ⟨q, e⟩ | ⟨q, e⟩ <;> (unfold aTk at q; omega)) (by omega)
                  · refine zT.iload_n 3 dX13_idle_70 rfl rfl ?_
                    refine zT.aload_n 0 dX13_idle_71 rfl rfl ?_
                    refine zT.iload 5 dX13_idle_72 rfl ?_
                    refine zT.callV (M' := mX13_from) (b := b) [zI k] [zI t] dX13_idle_74 kX13_297 rfl rfl (ci := 10) (r := (RX13, TX13, 62)) rfl (zMod.k hb) (C_X13_from hb (by first | assumption | exact zq_i _ | exact zand_i _ _ | exact zor_i _ _ | exact zN _ | omega)) (by decide) (k' := 0) (n' := 0) (by omega) (by omega) (by simp only [List.map, zcI, zcJ, zcR, List.sum_cons, List.sum_nil]; decide) (zdk (v := some (zI (m2 (b + 2) (59 + 5 * k + 2)))) ?_) (fun _ _ _ _ h => h.elim)
                    show zT G _ _ _ _ [zI (m2 (b + 2) (59 + 5 * k + 2)), zI t] _ _ _ _ _ _
                    refine zT.ic_lt (tgt := 90) dX13_idle_77 (by decide) (by first | assumption | exact zq_i _ | exact zand_i _ _ | exact zor_i _ _ | exact zN _ | omega) (by first | assumption | exact zq_i _ | exact zand_i _ _ | exact zor_i _ _ | exact zN _ | omega) (fun c77 => ?_) (fun c77 => ?_)
                    · refine zT.iconst dX13_idle_90 ?_
                      refine zT.goto (tgt := 95) dX13_idle_91 (by decide) ?_
                      refine zT.istore 4 dX13_idle_95 (by decide) (zpre1 rfl (zcI _)) ?_
                      show zT G _ _ _ [zR b, zI p, zI v, zI t, zI 1, zI k] _ _ _ _ _ _ _
                      refine zT.iinc 5 dX13_idle_97 rfl (by decide) (zpre1 rfl (zcI _)) ?_
                      show zT G _ _ _ [zR b, zI p, zI v, zI t, zI 1, zI (k + 1)] _ _ _ _ _ _ _
                      refine zT.goto (tgt := 45) dX13_idle_100 (by decide) ?_
                      exact ih45 _ _ (by first | assumption | exact zq_i _ | exact zand_i _ _ | exact zor_i _ _ | exact zN _ | omega) (by first | assumption | exact zq_i _ | exact zand_i _ _ | exact zor_i _ _ | exact zN _ | omega) (by rcases acnt_s (P := (aTk (aGo (A 2) 58) p t)) k0 with ⟨q, e⟩ | ⟨q, e⟩ <;> (unfold aTk at q; omega)) (by omega)
                    · refine zT.iload_n 3 dX13_idle_80 rfl rfl ?_
                      refine zT.aload_n 0 dX13_idle_81 rfl rfl ?_
                      refine zT.iload 5 dX13_idle_82 rfl ?_
                      refine zT.callV (M' := mX13_behind) (b := b) [zI k] [zI t] dX13_idle_84 kX13_306 rfl rfl (ci := 10) (r := (RX13, TX13, 62)) rfl (zMod.k hb) (C_X13_behind hb (by first | assumption | exact zq_i _ | exact zand_i _ _ | exact zor_i _ _ | exact zN _ | omega)) (by decide) (k' := 0) (n' := 0) (by omega) (by omega) (by simp only [List.map, zcI, zcJ, zcR, List.sum_cons, List.sum_nil]; decide) (zdk (v := some (zI (m2 (b + 2) (59 + 5 * k + 2) + m2 (b + 2) (59 + 5 * k + 4)))) ?_) (fun _ _ _ _ h => h.elim)
                      show zT G _ _ _ _ [zI (m2 (b + 2) (59 + 5 * k + 2) + m2 (b + 2) (59 + 5 * k + 4)), zI t] _ _ _ _ _ _
                      refine zT.ic_lt (tgt := 94) dX13_idle_87 (by decide) (by first | assumption | exact zq_i _ | exact zand_i _ _ | exact zor_i _ _ | exact zN _ | omega) (by first | assumption | exact zq_i _ | exact zand_i _ _ | exact zor_i _ _ | exact zN _ | omega) (fun c87 => ?_) (fun c87 => ?_)
                      · refine zT.iconst dX13_idle_94 ?_
                        refine zT.istore 4 dX13_idle_95 (by decide) (zpre1 rfl (zcI _)) ?_
                        show zT G _ _ _ [zR b, zI p, zI v, zI t, zI 0, zI k] _ _ _ _ _ _ _
                        refine zT.iinc 5 dX13_idle_97 rfl (by decide) (zpre1 rfl (zcI _)) ?_
                        show zT G _ _ _ [zR b, zI p, zI v, zI t, zI 0, zI (k + 1)] _ _ _ _ _ _ _
                        refine zT.goto (tgt := 45) dX13_idle_100 (by decide) ?_
                        exact ih45 _ _ (by first | assumption | exact zq_i _ | exact zand_i _ _ | exact zor_i _ _ | exact zN _ | omega) (by first | assumption | exact zq_i _ | exact zand_i _ _ | exact zor_i _ _ | exact zN _ | omega) (by rcases acnt_s (P := (aTk (aGo (A 2) 58) p t)) k0 with ⟨q, e⟩ | ⟨q, e⟩ <;> (unfold aTk at q; omega)) (by omega)
                      · refine zT.iconst dX13_idle_90 ?_
                        refine zT.goto (tgt := 95) dX13_idle_91 (by decide) ?_
                        refine zT.istore 4 dX13_idle_95 (by decide) (zpre1 rfl (zcI _)) ?_
                        show zT G _ _ _ [zR b, zI p, zI v, zI t, zI 1, zI k] _ _ _ _ _ _ _
                        refine zT.iinc 5 dX13_idle_97 rfl (by decide) (zpre1 rfl (zcI _)) ?_
                        show zT G _ _ _ [zR b, zI p, zI v, zI t, zI 1, zI (k + 1)] _ _ _ _ _ _ _
                        refine zT.goto (tgt := 45) dX13_idle_100 (by decide) ?_
                        exact ih45 _ _ (by first | assumption | exact zq_i _ | exact zand_i _ _ | exact zor_i _ _ | exact zN _ | omega) (by first | assumption | exact zq_i _ | exact zand_i _ _ | exact zor_i _ _ | exact zN _ | omega) (by rcases acnt_s (P := (aTk (aGo (A 2) 58) p t)) k0 with ⟨q, e⟩ | ⟨q, e⟩ <;> (unfold aTk at q; omega)) (by omega)
          exact L45 _ _ _ (by first | assumption | exact zq_i _ | exact zand_i _ _ | exact zor_i _ _ | exact zN _ | omega) (by first | assumption | exact zq_i _ | exact zand_i _ _ | exact zor_i _ _ | exact zN _ | omega) (by exact Or.inl ⟨rfl, rfl⟩) (Nat.lt_succ_self _)
    exact L31 _ _ _ (by first | assumption | exact zq_i _ | exact zand_i _ _ | exact zor_i _ _ | exact zN _ | omega) (by first | assumption | exact zq_i _ | exact zand_i _ _ | exact zor_i _ _ | exact zN _ | omega) (by rfl) (by first | assumption | exact zq_i _ | exact zand_i _ _ | exact zor_i _ _ | exact zN _ | omega) (Nat.lt_succ_self _)
  · refine zT.iconst dX13_idle_25 ?_
    refine zT.iret dX13_idle_26 rfl ?_
    rw [eQ9]
    exact ⟨by rw [if_neg (by omega)], rfl, by rw [em2, em1]⟩

