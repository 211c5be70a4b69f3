/-! PanSlicesModel: hasLeft, drawn (written by gen/m_morn2.py) -/
theorem C_X13_hasLeft {G : zG} {S : zS} {m : zMm} {b : Int} (hb : zMod S b){n5 : Int} (hL : ∀ j, 0 ≤ j → j < 2 * n5 → 0 ≤ m (b + 21) j ∧ m (b + 21) j ≤ 20) {s : Int} (hs : 0 ≤ s ∧ s < n5) (hn : 0 ≤ n5 ∧ n5 ≤ 8) : zC G mX13_hasLeft 0 0 0 [zR b, zI s] S m (zDet (some (zI (zq (0 < m (b + 21) (2 * s) + m (b + 21) (2 * s + 1))))) S m) zNX := by
  have ha0 := hL (2 * s) (by omega) (by omega)
  have ha1 := hL (2 * s + 1) (by omega) (by omega)
  refine zC.of [zR b, zI s] (by decide) rfl (zEn1 (zcR _) (zEn1 (zcI _) (zEn0 (by simp)))) rfl ?_
  refine zT.aload_n 0 dX13_hasLeft_0 rfl rfl ?_
  refine zT.getF dX13_hasLeft_1 fX13_76 rfl (zMod.k hb) (j := 39) (by decide) rfl (zMod.f1039 hb) ?_
  refine zT.iconst dX13_hasLeft_4 ?_
  refine zT.iload_n 1 dX13_hasLeft_5 rfl rfl ?_
  refine zT.imul dX13_hasLeft_6 ?_
  refine zT.iald dX13_hasLeft_7 (zMod.a1039 hb) (by first | assumption | exact zq_i _ | exact zand_i _ _ | exact zor_i _ _ | exact zN _ | omega) (by rw [(zMod.n1039 hb)]; first | assumption | exact zq_i _ | exact zand_i _ _ | exact zor_i _ _ | exact zN _ | omega) (fun z7 => ?_)
  refine zT.aload_n 0 dX13_hasLeft_8 rfl rfl ?_
  refine zT.getF dX13_hasLeft_9 fX13_76 rfl (zMod.k hb) (j := 39) (by decide) rfl (zMod.f1039 hb) ?_
  refine zT.iconst dX13_hasLeft_12 ?_
  refine zT.iload_n 1 dX13_hasLeft_13 rfl rfl ?_
  refine zT.imul dX13_hasLeft_14 ?_
  refine zT.iconst dX13_hasLeft_15 ?_
  refine zT.iadd dX13_hasLeft_16 ?_
  refine zT.iald dX13_hasLeft_17 (zMod.a1039 hb) (by first | assumption | exact zq_i _ | exact zand_i _ _ | exact zor_i _ _ | exact zN _ | omega) (by rw [(zMod.n1039 hb)]; first | assumption | exact zq_i _ | exact zand_i _ _ | exact zor_i _ _ | exact zN _ | omega) (fun z17 => ?_)
  refine zT.iadd dX13_hasLeft_18 ?_
  refine zT.if_le (tgt := 26) dX13_hasLeft_19 (by decide) (by first | assumption | exact zq_i _ | exact zand_i _ _ | exact zor_i _ _ | exact zN _ | omega) (fun c19 => ?_) (fun c19 => ?_)
  · refine zT.iconst dX13_hasLeft_26 ?_
    refine zT.zret dX13_hasLeft_27 rfl (by omega) ?_
    (first | rw [zq_t (by omega)] | rw [zq_f (by omega)]); exact ⟨rfl, rfl, rfl⟩
  · refine zT.iconst dX13_hasLeft_22 ?_
    refine zT.goto (tgt := 27) dX13_hasLeft_23 (by decide) ?_
    refine zT.zret dX13_hasLeft_27 rfl (by omega) ?_
    (first | rw [zq_t (by omega)] | rw [zq_f (by omega)]); exact ⟨rfl, rfl, rfl⟩

theorem C_X13_drawn {G : zG} {S : zS} {m : zMm} {b : Int} (hb : zMod S b){n5 : Int} (hL : ∀ j, 0 ≤ j → j < 2 * n5 → 0 ≤ m (b + 21) j ∧ m (b + 21) j ≤ 20) {c on : Int} (h5 : m (b + 2) 5 = n5) (hn : 0 ≤ n5 ∧ n5 ≤ 8) (ho : zi on) (hc : c = acnt (fCd (m (b + 21)) on) n5) (hc0 : 0 < c) : zC G mX13_drawn 1 0 0 [zR b, zI c, zI on] S m (zDet (some (zI (fKt (m (b + 21)) on (fDr (m b 1056) c) n5))) S (zup m b 1056 (fSd (m b 1056)))) zNX := by
  have hcb := acnt_b (P := (fCd (m (b + 21)) on)) (k := n5) hn.1
  have hfd := fDr_b (s := m b 1056) (n := c) (by omega)
  refine zC.of [zR b, zI c, zI on, zU, zU] (by decide) rfl (zEn1 (zcR _) (zEn1 (zcI _) (zEn1 (zcI _) (zEn0 (by simp))))) rfl ?_
  refine zT.rng hb.a1014 (fun zN => ?_)
  obtain ⟨Q9, eQ9⟩ : ∃ z : zQt, z = (zDet (some (zI (fKt (m (b + 21)) on (fDr (m b 1056) c) n5))) S (zup m b 1056 (fSd (m b 1056)))) := ⟨_, rfl⟩
  rw [← eQ9]
  refine zT.aload_n 0 dX13_drawn_0 rfl rfl ?_
  refine zT.iload_n 1 dX13_drawn_1 rfl rfl ?_
  refine zT.callV (M' := mX13_draw) (b := b) [zI c] [] dX13_drawn_2 kX13_443 rfl rfl (ci := 10) (r := (RX13, TX13, 62)) rfl (zMod.k hb) (C_X13_draw hb (by omega) (by omega)) (by decide) (k' := 0) (n' := 0) (by omega) (by omega) (by decide) (zdk (v := some (zI (fDr (m b 1056) c))) ?_) (fun _ _ _ _ h => h.elim)
  show zT G _ _ _ _ [zI (fDr (m b 1056) c)] _ _ _ _ _ _
  obtain ⟨m1, em1⟩ : ∃ z, z = zup m b 1056 (fSd (m b 1056)) := ⟨_, rfl⟩
  rw [← em1]
  obtain ⟨D9, eD9⟩ : ∃ z, z = fDr (m b 1056) c := ⟨_, rfl⟩
  rw [← eD9] at hfd ⊢
  have hL1 : ∀ j, 0 ≤ j → j < 2 * n5 → 0 ≤ m1 (b + 21) j ∧ m1 (b + 21) j ≤ 20 := fun j j0 j1 => by rw [em1, zup_ne (by omega)]; exact hL j j0 j1
  have hs5 : m1 (b + 2) 5 = n5 := by rw [em1, zup_ne (by omega)]; exact h5
  have eL : ∀ j, m1 (b + 21) j = m (b + 21) j := fun j => by rw [em1, zup_ne (by omega)]
  refine zT.istore_n 3 dX13_drawn_5 rfl (by decide) (zpre1 rfl (zcI _)) ?_
  show zT G _ _ _ [zR b, zI c, zI on, zI D9, zU] _ _ _ _ _ _ _
  refine zT.iconst dX13_drawn_6 ?_
  refine zT.istore 4 dX13_drawn_7 (by decide) (zpre1 rfl (zcI _)) ?_
  show zT G _ _ _ [zR b, zI c, zI on, zI D9, zI 0] _ _ _ _ _ _ _
  have L9 : ∀ (N : Nat) (t : Int) (s : Int), (0 ≤ s) → (s ≤ n5) → (0 ≤ t) → (t ≤ 100) → (acnt (fCd (m (b + 21)) on) s = D9 - t) → ((n5 - s).toNat) < N → zT G mX13_drawn 1 9 [zR b, zI c, zI on, zI t, zI s] [] S m1 0 0 Q9 zNX := by
    intro N
    induction N with
    | zero => intro t s s0 s1 t0 t1 ht hN; exact absurd hN (Nat.not_lt_zero _)
    | succ N ih9 =>
      intro t s s0 s1 t0 t1 ht hN
      refine zT.iload 4 dX13_drawn_9 rfl ?_
      refine zT.aload_n 0 dX13_drawn_11 rfl rfl ?_
      refine zT.callV (M' := mX13_slices) (b := b) [] [zI s] dX13_drawn_12 kX13_271 rfl rfl (ci := 10) (r := (RX13, TX13, 62)) rfl (zMod.k hb) (C_X13_slices hb) (by decide) (k' := 0) (n' := 0) (by omega) (by omega) (by simp only [List.map, zcI, zcJ, zcR, List.sum_cons, List.sum_nil]; decide) (zdk (v := some (zI (m1 (b + 2) (5)))) ?_) (fun _ _ _ _ h => h.elim)
      show zT G _ _ _ _ [zI (m1 (b + 2) (5)), zI s] _ _ _ _ _ _
      refine zT.ic_ge (tgt := 55) dX13_drawn_15 (by decide) (by first | assumption | exact zq_i _ | exact zand_i _ _ | exact zor_i _ _ | exact zN _ | omega) (by first | assumption | exact zq_i _ | exact zand_i _ _ | exact zor_i _ _ | exact zN _ | omega) (fun c15 => ?_) (fun c15 => ?_)
      · refine zT.iconst dX13_drawn_55 ?_
        refine zT.iret dX13_drawn_56 rfl ?_
        rw [eQ9]
        exfalso
        have e : s = n5 := by omega
        rw [e] at ht
        omega
      · refine zT.iload_n 2 dX13_drawn_18 rfl rfl ?_
        refine zT.iload 4 dX13_drawn_19 rfl ?_
        refine zT.callS (M' := mX13_has) [zI on, zI s] [] dX13_drawn_21 kX13_220 rfl rfl (C_X13_has (by first | assumption | exact zq_i _ | exact zand_i _ _ | exact zor_i _ _ | exact zN _ | omega) (by first | assumption | exact zq_i _ | exact zand_i _ _ | exact zor_i _ _ | exact zN _ | omega) (by first | assumption | exact zq_i _ | exact zand_i _ _ | exact zor_i _ _ | exact zN _ | omega)) (by decide) (k' := 0) (n' := 0) (by omega) (by omega) (by decide) (zdk (v := some (zI (zq (zbit on s)))) ?_) (fun _ _ _ _ h => h.elim)
        show zT G _ _ _ _ [zI (zq (zbit on s))] _ _ _ _ _ _
        refine zT.if_neB (tgt := 49) dX13_drawn_24 (by decide) (fun c24 => ?_) (fun c24 => ?_)
        · refine zT.iinc 4 dX13_drawn_49 rfl (by decide) (zpre1 rfl (zcI _)) ?_
          show zT G _ _ _ [zR b, zI c, zI on, zI t, zI (s + 1)] _ _ _ _ _ _ _
          refine zT.goto (tgt := 9) dX13_drawn_52 (by decide) ?_
          exact ih9 _ _ (by first | assumption | exact zq_i _ | exact zand_i _ _ | exact zor_i _ _ | exact zN _ | omega) (by first | assumption | exact zq_i _ | exact zand_i _ _ | exact zor_i _ _ | exact zN _ | omega) (by first | assumption | exact zq_i _ | exact zand_i _ _ | exact zor_i _ _ | exact zN _ | omega) (by first | assumption | exact zq_i _ | exact zand_i _ _ | exact zor_i _ _ | exact zN _ | omega) (by
              rcases acnt_s (P := (fCd (m (b + 21)) on)) s0 with ⟨q, e⟩ | ⟨q, e⟩
              · have q2 := q.2
                first
                  | omega
                  | exact absurd ‹zbit on s› q.1
              · first
                  | omega
                  | exact absurd ⟨by assumption, by omega⟩ q) (by omega)
        · refine zT.aload_n 0 dX13_drawn_27 rfl rfl ?_
          refine zT.iload 4 dX13_drawn_28 rfl ?_
          refine zT.callV (M' := mX13_hasLeft) (b := b) [zI s] [] dX13_drawn_30 kX13_369 rfl rfl (ci := 10) (r := (RX13, TX13, 62)) rfl (zMod.k hb) (C_X13_hasLeft hb hL1 (by omega) (by omega)) (by decide) (k' := 0) (n' := 0) (by omega) (by omega) (by decide) (zdk (v := some (zI (zq (0 < m1 (b + 21) (2 * s) + m1 (b + 21) (2 * s + 1))))) ?_) (fun _ _ _ _ h => h.elim)
          show zT G _ _ _ _ [zI (zq (0 < m1 (b + 21) (2 * s) + m1 (b + 21) (2 * s + 1)))] _ _ _ _ _ _
          rw [eL, eL]
          refine zT.if_neB (tgt := 39) dX13_drawn_33 (by decide) (fun c33 => ?_) (fun c33 => ?_)
          · refine zT.iload_n 3 dX13_drawn_39 rfl rfl ?_
            refine zT.if_ne (tgt := 46) dX13_drawn_40 (by decide) (by first | assumption | exact zq_i _ | exact zand_i _ _ | exact zor_i _ _ | exact zN _ | omega) (fun c40 => ?_) (fun c40 => ?_)
            · refine zT.iinc 3 dX13_drawn_46 rfl (by decide) (zpre1 rfl (zcI _)) ?_
              show zT G _ _ _ [zR b, zI c, zI on, zI (t + (-1)), zI s] _ _ _ _ _ _ _
              refine zT.iinc 4 dX13_drawn_49 rfl (by decide) (zpre1 rfl (zcI _)) ?_
              show zT G _ _ _ [zR b, zI c, zI on, zI (t + (-1)), zI (s + 1)] _ _ _ _ _ _ _
              refine zT.goto (tgt := 9) dX13_drawn_52 (by decide) ?_
              exact ih9 _ _ (by first | assumption | exact zq_i _ | exact zand_i _ _ | exact zor_i _ _ | exact zN _ | omega) (by first | assumption | exact zq_i _ | exact zand_i _ _ | exact zor_i _ _ | exact zN _ | omega) (by first | assumption | exact zq_i _ | exact zand_i _ _ | exact zor_i _ _ | exact zN _ | omega) (by first | assumption | exact zq_i _ | exact zand_i _ _ | exact zor_i _ _ | exact zN _ | omega) (by
                  rcases acnt_s (P := (fCd (m (b + 21)) on)) s0 with ⟨q, e⟩ | ⟨q, e⟩
                  · have q2 := q.2
                    first
                      | omega
                      | exact absurd ‹zbit on s› q.1
                  · first
                      | omega
                      | exact absurd ⟨by assumption, by omega⟩ q) (by omega)
            · refine zT.iload 4 dX13_drawn_43 rfl ?_
              refine zT.iret dX13_drawn_45 rfl ?_
              rw [eQ9]
              refine ⟨?_, rfl, by rw [em1]⟩
              rw [← eD9, fKt_e (s := s) s0 (by omega) ⟨by assumption, by omega⟩ (by omega)]
          · refine zT.goto (tgt := 49) dX13_drawn_36 (by decide) ?_
            refine zT.iinc 4 dX13_drawn_49 rfl (by decide) (zpre1 rfl (zcI _)) ?_
            show zT G _ _ _ [zR b, zI c, zI on, zI t, zI (s + 1)] _ _ _ _ _ _ _
            refine zT.goto (tgt := 9) dX13_drawn_52 (by decide) ?_
            exact ih9 _ _ (by first | assumption | exact zq_i _ | exact zand_i _ _ | exact zor_i _ _ | exact zN _ | omega) (by first | assumption | exact zq_i _ | exact zand_i _ _ | exact zor_i _ _ | exact zN _ | omega) (by first | assumption | exact zq_i _ | exact zand_i _ _ | exact zor_i _ _ | exact zN _ | omega) (by first | assumption | exact zq_i _ | exact zand_i _ _ | exact zor_i _ _ | exact zN _ | omega) (by
                rcases acnt_s (P := (fCd (m (b + 21)) on)) s0 with ⟨q, e⟩ | ⟨q, e⟩
                · have q2 := q.2
                  first
                    | omega
                    | exact absurd ‹zbit on s› q.1
                · first
                    | omega
                    | exact absurd ⟨by assumption, by omega⟩ q) (by omega)
  exact L9 _ _ _ (by first | assumption | exact zq_i _ | exact zand_i _ _ | exact zor_i _ _ | exact zN _ | omega) (by first | assumption | exact zq_i _ | exact zand_i _ _ | exact zor_i _ _ | exact zN _ | omega) (by first | assumption | exact zq_i _ | exact zand_i _ _ | exact zor_i _ _ | exact zN _ | omega) (by first | assumption | exact zq_i _ | exact zand_i _ _ | exact zor_i _ _ | exact zN _ | omega) (by rw [acnt_0]; omega) (Nat.lt_succ_self _)

