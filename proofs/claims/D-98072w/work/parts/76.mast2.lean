/-! PanSlicesModel: takes, masters (written by gen/m_mast2.py) -/
theorem C_X13_takes {G : zG} {S : zS} {m : zMm} {b : Int} {K : Int → Int} (hb : zMod S b) (hk9 : zMK m b K) (hk : zKV K) {c bg go t o f : Int} {E : Int → Int} (hc : c = 0 ∨ c = 1) (hbi : zi bg) (hgi : zi go) (hbg : ∀ s, 0 ≤ s → s < K 5 → (zbit bg s ↔ ¬ fUn E s)) (hgo : ∀ j, 0 ≤ j → j < 2 * K 5 → (zbit go j ↔ E j ≠ 0)) (hf : m (b + 18) (1 - c) = f) (ho : m (b + 19) (1 - c) = o) (ht : m b 1041 = t) (h3 : ∀ s, 0 ≤ s → s < K 5 → E (2 * s + 1 - c) ≤ f) (h4 : ∀ s, 0 ≤ s → s < K 5 → s ≠ o → E (2 * s + 1 - c) ≤ t) (h5 : t < f → E (2 * o + 1 - c) = f) : zC G mX13_takes 2 0 0 [zR b, zI c, zI bg, zI go] S m (zDet (some (zI (pup K E c t (K 5)))) S m) zNX := by
  have k05 := hk9 5 (by omega) (by omega)
  have hk0 := hk.1
  refine zC.of [zR b, zI c, zI bg, zI go, zU, zU] (by decide) rfl (zEn1 (zcR _) (zEn1 (zcI _) (zEn1 (zcI _) (zEn1 (zcI _) (zEn0 (by simp)))))) rfl ?_
  refine zT.iconst dX13_takes_0 ?_
  refine zT.istore 4 dX13_takes_1 (by decide) (zpre1 rfl (zcI _)) ?_
  show zT G _ _ _ [zR b, zI c, zI bg, zI go, zI (-1), zU] _ _ _ _ _ _ _
  refine zT.iconst dX13_takes_3 ?_
  refine zT.istore 5 dX13_takes_4 (by decide) (zpre1 rfl (zcI _)) ?_
  show zT G _ _ _ [zR b, zI c, zI bg, zI go, zI (-1), zI 0] _ _ _ _ _ _ _
  have L6 : ∀ (N : Nat) (s : Int) (v : Int), (0 ≤ s) → (s ≤ K 5) → (v = pA K E c s) → ((K 5 - s).toNat) < N → zT G mX13_takes 2 6 [zR b, zI c, zI bg, zI go, zI v, zI s] [] S m 0 0 (zDet (some (zI (pup K E c t (K 5)))) S m) zNX := by
    intro N
    induction N with
    | zero => intro s v s0 s1 hv hN; exact absurd hN (Nat.not_lt_zero _)
    | succ N ih6 =>
      intro s v s0 s1 hv hN
      have hvb := pA_i (K := K) (E := E) (c := c) s0
      rw [← hv] at hvb
      refine zT.iload 5 dX13_takes_6 rfl ?_
      refine zT.aload_n 0 dX13_takes_8 rfl rfl ?_
      refine zT.callV (M' := mX13_slices) (b := b) [] [zI s] dX13_takes_9 kX13_271 rfl rfl (ci := 10) (r := (RX13, TX13, 62)) rfl (zMod.k hb) (C_X13_slices hb) (by decide) (k' := 0) (n' := 0) (by omega) (by omega) (by simp only [List.map, zcI, zcJ, zcR, List.sum_cons, List.sum_nil]; decide) (zdk (v := some (zI (m (b + 2) (5)))) ?_) (fun _ _ _ _ h => h.elim)
      show zT G _ _ _ _ [zI (m (b + 2) (5)), zI s] _ _ _ _ _ _
      refine zT.ic_ge (tgt := 61) dX13_takes_12 (by decide) (by first | assumption | exact zq_i _ | exact zand_i _ _ | exact zor_i _ _ | exact zN _ | omega) (by first | assumption | exact zq_i _ | exact zand_i _ _ | exact zor_i _ _ | exact zN _ | omega) (fun c12 => ?_) (fun c12 => ?_)
      · refine zT.iload 4 dX13_takes_61 rfl ?_
        refine zT.iconst dX13_takes_63 ?_
        refine zT.ic_eq (tgt := 70) dX13_takes_64 (by decide) (by first | assumption | exact zq_i _ | exact zand_i _ _ | exact zor_i _ _ | exact zN _ | omega) (by first | assumption | exact zq_i _ | exact zand_i _ _ | exact zor_i _ _ | exact zN _ | omega) (fun c64 => ?_) (fun c64 => ?_)
        · have hA1 : pA K E c (K 5) = -1 := by rw [← show s = K 5 by omega, ← hv]; omega
          refine zT.iconst dX13_takes_70 ?_
          refine zT.istore 5 dX13_takes_71 (by decide) (zpre1 rfl (zcI _)) ?_
          show zT G _ _ _ [zR b, zI c, zI bg, zI go, zI v, zI 0] _ _ _ _ _ _ _
          have L73 : ∀ (N : Nat) (s : Int), (0 ≤ s) → (s ≤ K 5) → (∀ j, 0 ≤ j → j < s → ¬ (E (2 * j + c) = 0 ∧ E (2 * j + 1 - c) ≤ t)) → ((K 5 - s).toNat) < N → zT G mX13_takes 2 73 [zR b, zI c, zI bg, zI go, zU, zI s] [] S m 0 0 (zDet (some (zI (pup K E c t (K 5)))) S m) zNX := by
            intro N
            induction N with
            | zero => intro s s0 s1 hz hN; exact absurd hN (Nat.not_lt_zero _)
            | succ N ih73 =>
              intro s s0 s1 hz hN
              refine zT.iload 5 dX13_takes_73 rfl ?_
              refine zT.aload_n 0 dX13_takes_75 rfl rfl ?_
              refine zT.callV (M' := mX13_slices) (b := b) [] [zI s] dX13_takes_76 kX13_271 rfl rfl (ci := 10) (r := (RX13, TX13, 62)) rfl (zMod.k hb) (C_X13_slices hb) (by decide) (k' := 0) (n' := 0) (by omega) (by omega) (by simp only [List.map, zcI, zcJ, zcR, List.sum_cons, List.sum_nil]; decide) (zdk (v := some (zI (m (b + 2) (5)))) ?_) (fun _ _ _ _ h => h.elim)
              show zT G _ _ _ _ [zI (m (b + 2) (5)), zI s] _ _ _ _ _ _
              refine zT.ic_ge (tgt := 132) dX13_takes_79 (by decide) (by first | assumption | exact zq_i _ | exact zand_i _ _ | exact zor_i _ _ | exact zN _ | omega) (by first | assumption | exact zq_i _ | exact zand_i _ _ | exact zor_i _ _ | exact zN _ | omega) (fun c79 => ?_) (fun c79 => ?_)
              · refine zT.iconst dX13_takes_132 ?_
                refine zT.iret dX13_takes_133 rfl ?_
                refine ⟨?_, rfl, rfl⟩
                unfold pup pB
                rw [zite_t hA1, zfi_f (fun j a b => hz j a (by omega))]
              · refine zT.iload_n 3 dX13_takes_82 rfl rfl ?_
                refine zT.iconst dX13_takes_83 ?_
                refine zT.iload 5 dX13_takes_84 rfl ?_
                refine zT.imul dX13_takes_86 ?_
                refine zT.iload_n 1 dX13_takes_87 rfl rfl ?_
                refine zT.iadd dX13_takes_88 ?_
                refine zT.callS (M' := mX13_has) [zI go, zI ((2 * s) + c)] [] dX13_takes_89 kX13_220 rfl rfl (C_X13_has (by first | assumption | exact zq_i _ | exact zand_i _ _ | exact zor_i _ _ | exact zN _ | omega) (by first | assumption | exact zq_i _ | exact zand_i _ _ | exact zor_i _ _ | exact zN _ | omega) (by first | assumption | exact zq_i _ | exact zand_i _ _ | exact zor_i _ _ | exact zN _ | omega)) (by decide) (k' := 0) (n' := 0) (by omega) (by omega) (by decide) (zdk (v := some (zI (zq (zbit go ((2 * s) + c))))) ?_) (fun _ _ _ _ h => h.elim)
                show zT G _ _ _ _ [zI (zq (zbit go ((2 * s) + c)))] _ _ _ _ _ _
                refine zT.if_neB (tgt := 126) dX13_takes_92 (by decide) (fun c92 => ?_) (fun c92 => ?_)
                · refine zT.iinc 5 dX13_takes_126 rfl (by decide) (zpreU rfl) ?_
                  show zT G _ _ _ [zR b, zI c, zI bg, zI go, zU, zI (s + 1)] _ _ _ _ _ _ _
                  refine zT.goto (tgt := 73) dX13_takes_129 (by decide) ?_
                  exact ih73 _ (by first | assumption | exact zq_i _ | exact zand_i _ _ | exact zor_i _ _ | exact zN _ | omega) (by first | assumption | exact zq_i _ | exact zand_i _ _ | exact zor_i _ _ | exact zN _ | omega) (by
                      exact zal_s hz (fun z => by
                        first
                          | exact (hgo (2 * s + c) (by omega) (by omega)).mp (by assumption) z.1
                          | (have e5 := h5 (by omega)
                             have e6 : s = o := by omega
                             have e7 := z.2
                             rw [e6] at e7
                             omega))) (by omega)
                · have hE0 : E (2 * s + c) = 0 := Classical.byContradiction fun q => absurd ((hgo (2 * s + c) (by omega) (by omega)).mpr q) (by assumption)
                  have h3s := h3 s s0 (by omega)
                  have h4s := h4 s s0 (by omega)
                  refine zT.aload_n 0 dX13_takes_95 rfl rfl ?_
                  refine zT.getF dX13_takes_96 fX13_67 rfl (zMod.k hb) (j := 36) (by decide) rfl (zMod.f1036 hb) ?_
                  refine zT.iconst dX13_takes_99 ?_
                  refine zT.iload_n 1 dX13_takes_100 rfl rfl ?_
                  refine zT.isub dX13_takes_101 ?_
                  refine zT.iald dX13_takes_102 (zMod.a1036 hb) (by first | assumption | exact zq_i _ | exact zand_i _ _ | exact zor_i _ _ | exact zN _ | omega) (by rw [(zMod.n1036 hb)]; first | assumption | exact zq_i _ | exact zand_i _ _ | exact zor_i _ _ | exact zN _ | omega) (fun z102 => ?_)
                  refine zT.aload_n 0 dX13_takes_103 rfl rfl ?_
                  refine zT.getI dX13_takes_104 fX13_359 rfl (zMod.k hb) (j := 41) (by decide) rfl (fun z104 => ?_)
                  refine zT.ic_le (tgt := 123) dX13_takes_107 (by decide) (by first | assumption | exact zq_i _ | exact zand_i _ _ | exact zor_i _ _ | exact zN _ | omega) (by first | assumption | exact zq_i _ | exact zand_i _ _ | exact zor_i _ _ | exact zN _ | omega) (fun c107 => ?_) (fun c107 => ?_)
                  · refine zT.iload 5 dX13_takes_123 rfl ?_
                    refine zT.iret dX13_takes_125 rfl ?_
                    refine ⟨?_, rfl, rfl⟩
                    unfold pup pB
                    rw [zite_t hA1, zfi_t hz (by omega) (by omega) ⟨hE0, by omega⟩]
                  · refine zT.aload_n 0 dX13_takes_110 rfl rfl ?_
                    refine zT.getF dX13_takes_111 fX13_70 rfl (zMod.k hb) (j := 37) (by decide) rfl (zMod.f1037 hb) ?_
                    refine zT.iconst dX13_takes_114 ?_
                    refine zT.iload_n 1 dX13_takes_115 rfl rfl ?_
                    refine zT.isub dX13_takes_116 ?_
                    refine zT.iald dX13_takes_117 (zMod.a1037 hb) (by first | assumption | exact zq_i _ | exact zand_i _ _ | exact zor_i _ _ | exact zN _ | omega) (by rw [(zMod.n1037 hb)]; first | assumption | exact zq_i _ | exact zand_i _ _ | exact zor_i _ _ | exact zN _ | omega) (fun z117 => ?_)
                    refine zT.iload 5 dX13_takes_118 rfl ?_
                    refine zT.ic_eq (tgt := 126) dX13_takes_120 (by decide) (by first | assumption | exact zq_i _ | exact zand_i _ _ | exact zor_i _ _ | exact zN _ | omega) (by first | assumption | exact zq_i _ | exact zand_i _ _ | exact zor_i _ _ | exact zN _ | omega) (fun c120 => ?_) (fun c120 => ?_)
                    · refine zT.iinc 5 dX13_takes_126 rfl (by decide) (zpreU rfl) ?_
                      show zT G _ _ _ [zR b, zI c, zI bg, zI go, zU, zI (s + 1)] _ _ _ _ _ _ _
                      refine zT.goto (tgt := 73) dX13_takes_129 (by decide) ?_
                      exact ih73 _ (by first | assumption | exact zq_i _ | exact zand_i _ _ | exact zor_i _ _ | exact zN _ | omega) (by first | assumption | exact zq_i _ | exact zand_i _ _ | exact zor_i _ _ | exact zN _ | omega) (by
                          exact zal_s hz (fun z => by
                            first
                              | exact (hgo (2 * s + c) (by omega) (by omega)).mp (by assumption) z.1
                              | (have e5 := h5 (by omega)
                                 have e6 : s = o := by omega
                                 have e7 := z.2
                                 rw [e6] at e7
                                 omega))) (by omega)
                    · refine zT.iload 5 dX13_takes_123 rfl ?_
                      refine zT.iret dX13_takes_125 rfl ?_
                      refine ⟨?_, rfl, rfl⟩
                      unfold pup pB
                      rw [zite_t hA1, zfi_t hz (by omega) (by omega) ⟨hE0, by omega⟩]
          refine zT.loc (V' := [zR b, zI c, zI bg, zI go, zU, zI 0]) ?_ ⟨Or.inr rfl, Or.inr rfl, Or.inr rfl, Or.inr rfl, Or.inl rfl, Or.inr rfl, trivial⟩
          exact L73 _ _ (by first | assumption | exact zq_i _ | exact zand_i _ _ | exact zor_i _ _ | exact zN _ | omega) (by first | assumption | exact zq_i _ | exact zand_i _ _ | exact zor_i _ _ | exact zN _ | omega) (by exact fun j a b => by omega) (Nat.lt_succ_self _)
        · refine zT.iload 4 dX13_takes_67 rfl ?_
          refine zT.iret dX13_takes_69 rfl ?_
          refine ⟨?_, rfl, rfl⟩
          have hA1 : pA K E c (K 5) = v := by rw [← show s = K 5 by omega, ← hv]
          unfold pup
          rw [zite_f (by omega), hA1]
      · refine zT.iload_n 2 dX13_takes_15 rfl rfl ?_
        refine zT.iload 5 dX13_takes_16 rfl ?_
        refine zT.callS (M' := mX13_has) [zI bg, zI s] [] dX13_takes_18 kX13_220 rfl rfl (C_X13_has (by first | assumption | exact zq_i _ | exact zand_i _ _ | exact zor_i _ _ | exact zN _ | omega) (by first | assumption | exact zq_i _ | exact zand_i _ _ | exact zor_i _ _ | exact zN _ | omega) (by first | assumption | exact zq_i _ | exact zand_i _ _ | exact zor_i _ _ | exact zN _ | omega)) (by decide) (k' := 0) (n' := 0) (by omega) (by omega) (by decide) (zdk (v := some (zI (zq (zbit bg s)))) ?_) (fun _ _ _ _ h => h.elim)
        show zT G _ _ _ _ [zI (zq (zbit bg s))] _ _ _ _ _ _
        refine zT.if_neB (tgt := 55) dX13_takes_21 (by decide) (fun c21 => ?_) (fun c21 => ?_)
        · refine zT.iinc 5 dX13_takes_55 rfl (by decide) (zpre1 rfl (zcI _)) ?_
          show zT G _ _ _ [zR b, zI c, zI bg, zI go, zI v, zI (s + 1)] _ _ _ _ _ _ _
          refine zT.goto (tgt := 6) dX13_takes_58 (by decide) ?_
          exact ih6 _ _ (by first | assumption | exact zq_i _ | exact zand_i _ _ | exact zor_i _ _ | exact zN _ | omega) (by first | assumption | exact zq_i _ | exact zand_i _ _ | exact zor_i _ _ | exact zN _ | omega) (by
              rw [pA_s s0, ← hv]
              first
                | rw [zite_f (fun z => (hbg s s0 (by omega)).mp (by assumption) z.1)]
                | (have hU : fUn E s := Classical.byContradiction fun q => absurd ((hbg s s0 (by omega)).mpr q) (by assumption)
                   first
                     | rw [zite_t ⟨hU, by omega⟩]
                     | rw [zite_f (fun z => by have q3 := z.2; omega)])) (by omega)
        · refine zT.iload 4 dX13_takes_24 rfl ?_
          refine zT.iconst dX13_takes_26 ?_
          refine zT.ic_eq (tgt := 51) dX13_takes_27 (by decide) (by first | assumption | exact zq_i _ | exact zand_i _ _ | exact zor_i _ _ | exact zN _ | omega) (by first | assumption | exact zq_i _ | exact zand_i _ _ | exact zor_i _ _ | exact zN _ | omega) (fun c27 => ?_) (fun c27 => ?_)
          · refine zT.iload 5 dX13_takes_51 rfl ?_
            refine zT.istore 4 dX13_takes_53 (by decide) (zpre1 rfl (zcI _)) ?_
            show zT G _ _ _ [zR b, zI c, zI bg, zI go, zI s, zI s] _ _ _ _ _ _ _
            refine zT.iinc 5 dX13_takes_55 rfl (by decide) (zpre1 rfl (zcI _)) ?_
            show zT G _ _ _ [zR b, zI c, zI bg, zI go, zI s, zI (s + 1)] _ _ _ _ _ _ _
            refine zT.goto (tgt := 6) dX13_takes_58 (by decide) ?_
            exact ih6 _ _ (by first | assumption | exact zq_i _ | exact zand_i _ _ | exact zor_i _ _ | exact zN _ | omega) (by first | assumption | exact zq_i _ | exact zand_i _ _ | exact zor_i _ _ | exact zN _ | omega) (by
                rw [pA_s s0, ← hv]
                first
                  | rw [zite_f (fun z => (hbg s s0 (by omega)).mp (by assumption) z.1)]
                  | (have hU : fUn E s := Classical.byContradiction fun q => absurd ((hbg s s0 (by omega)).mpr q) (by assumption)
                     first
                       | rw [zite_t ⟨hU, by omega⟩]
                       | rw [zite_f (fun z => by have q3 := z.2; omega)])) (by omega)
          · refine zT.aload_n 0 dX13_takes_30 rfl rfl ?_
            refine zT.iload 5 dX13_takes_31 rfl ?_
            refine zT.iconst dX13_takes_33 ?_
            refine zT.iload_n 1 dX13_takes_34 rfl rfl ?_
            refine zT.isub dX13_takes_35 ?_
            refine zT.callV (M' := mX13_needs) (b := b) [zI s, zI (1 - c)] [] dX13_takes_36 kX13_309 rfl rfl (ci := 10) (r := (RX13, TX13, 62)) rfl (zMod.k hb) (C_X13_needs hb (by omega) (by omega)) (by decide) (k' := 0) (n' := 0) (by omega) (by omega) (by decide) (zdk (v := some (zI (m (b + 2) (8 + 3 * s + (1 - c))))) ?_) (fun _ _ _ _ h => h.elim)
            show zT G _ _ _ _ [zI (m (b + 2) (8 + 3 * s + (1 - c)))] _ _ _ _ _ _
            refine zT.aload_n 0 dX13_takes_39 rfl rfl ?_
            refine zT.iload 4 dX13_takes_40 rfl ?_
            refine zT.iconst dX13_takes_42 ?_
            refine zT.iload_n 1 dX13_takes_43 rfl rfl ?_
            refine zT.isub dX13_takes_44 ?_
            refine zT.callV (M' := mX13_needs) (b := b) [zI v, zI (1 - c)] [zI (m (b + 2) (8 + 3 * s + (1 - c)))] dX13_takes_45 kX13_309 rfl rfl (ci := 10) (r := (RX13, TX13, 62)) rfl (zMod.k hb) (C_X13_needs hb (by omega) (by omega)) (by decide) (k' := 0) (n' := 0) (by omega) (by omega) (by simp only [List.map, zcI, zcJ, zcR, List.sum_cons, List.sum_nil]; decide) (zdk (v := some (zI (m (b + 2) (8 + 3 * v + (1 - c))))) ?_) (fun _ _ _ _ h => h.elim)
            show zT G _ _ _ _ [zI (m (b + 2) (8 + 3 * v + (1 - c))), zI (m (b + 2) (8 + 3 * s + (1 - c)))] _ _ _ _ _ _
            have hv1 := hk.sd s0 (show s < 8 by omega) (show 1 - c = 0 ∨ 1 - c = 1 by omega)
            have hv2 := hk.sd (s := v) (c := 1 - c) (by omega) (by omega) (by omega)
            have hm1 := hk9 (8 + 3 * s + (1 - c)) (by omega) (by omega)
            have hm2 := hk9 (8 + 3 * v + (1 - c)) (by omega) (by omega)
            refine zT.ic_le (tgt := 55) dX13_takes_48 (by decide) (by first | assumption | exact zq_i _ | exact zand_i _ _ | exact zor_i _ _ | exact zN _ | omega) (by first | assumption | exact zq_i _ | exact zand_i _ _ | exact zor_i _ _ | exact zN _ | omega) (fun c48 => ?_) (fun c48 => ?_)
            · refine zT.iinc 5 dX13_takes_55 rfl (by decide) (zpre1 rfl (zcI _)) ?_
              show zT G _ _ _ [zR b, zI c, zI bg, zI go, zI v, zI (s + 1)] _ _ _ _ _ _ _
              refine zT.goto (tgt := 6) dX13_takes_58 (by decide) ?_
              exact ih6 _ _ (by first | assumption | exact zq_i _ | exact zand_i _ _ | exact zor_i _ _ | exact zN _ | omega) (by first | assumption | exact zq_i _ | exact zand_i _ _ | exact zor_i _ _ | exact zN _ | omega) (by
                  rw [pA_s s0, ← hv]
                  first
                    | rw [zite_f (fun z => (hbg s s0 (by omega)).mp (by assumption) z.1)]
                    | (have hU : fUn E s := Classical.byContradiction fun q => absurd ((hbg s s0 (by omega)).mpr q) (by assumption)
                       first
                         | rw [zite_t ⟨hU, by omega⟩]
                         | rw [zite_f (fun z => by have q3 := z.2; omega)])) (by omega)
            · refine zT.iload 5 dX13_takes_51 rfl ?_
              refine zT.istore 4 dX13_takes_53 (by decide) (zpre1 rfl (zcI _)) ?_
              show zT G _ _ _ [zR b, zI c, zI bg, zI go, zI s, zI s] _ _ _ _ _ _ _
              refine zT.iinc 5 dX13_takes_55 rfl (by decide) (zpre1 rfl (zcI _)) ?_
              show zT G _ _ _ [zR b, zI c, zI bg, zI go, zI s, zI (s + 1)] _ _ _ _ _ _ _
              refine zT.goto (tgt := 6) dX13_takes_58 (by decide) ?_
              exact ih6 _ _ (by first | assumption | exact zq_i _ | exact zand_i _ _ | exact zor_i _ _ | exact zN _ | omega) (by first | assumption | exact zq_i _ | exact zand_i _ _ | exact zor_i _ _ | exact zN _ | omega) (by
                  rw [pA_s s0, ← hv]
                  first
                    | rw [zite_f (fun z => (hbg s s0 (by omega)).mp (by assumption) z.1)]
                    | (have hU : fUn E s := Classical.byContradiction fun q => absurd ((hbg s s0 (by omega)).mpr q) (by assumption)
                       first
                         | rw [zite_t ⟨hU, by omega⟩]
                         | rw [zite_f (fun z => by have q3 := z.2; omega)])) (by omega)
  exact L6 _ _ _ (by first | assumption | exact zq_i _ | exact zand_i _ _ | exact zor_i _ _ | exact zN _ | omega) (by first | assumption | exact zq_i _ | exact zand_i _ _ | exact zor_i _ _ | exact zN _ | omega) (by rfl) (Nat.lt_succ_self _)

theorem zpi {a k : Int} (h : 0 ≤ a ∧ a < 2 ^ k.toNat) (hk : k ≤ 16) : zi a := by
  have hp : (2 : Int) ^ k.toNat ≤ 2 ^ 16 := by
    have q : (2 : Nat) ^ k.toNat ≤ 2 ^ 16 := Nat.pow_le_pow_right (by omega) (by omega)
    have e := Int.ofNat_le.mpr q
    rw [Int.natCast_pow, Int.natCast_pow] at e
    exact e
  have e16 : (2 : Int) ^ 16 = 65536 := by decide
  unfold zi
  omega
theorem C_X13_masters {G : zG} {S : zS} {m : zMm} {b : Int} {A : zMm} (hb : zMod S b) (hA : yEq m b A) (hV : aVd A)  : zC G mX13_masters 4 0 0 [zR b] S m (yPo S m b (some (zI (if (aK (A 0 1023) (A 2)) 5 = 0 then -1 else aends (aGo ((mRn (aK (A 0 1023) (A 2)) ((aK (A 0 1023) (A 2)) 5) 700 0 (uNil (uSnap (uLay (zup A 0 1000 0))), (fun _ => 0), (fun _ => 0))) 2) 58) ((mRn (aK (A 0 1023) (A 2)) ((aK (A 0 1023) (A 2)) 5) 700 0 (uNil (uSnap (uLay (zup A 0 1000 0))), (fun _ => 0), (fun _ => 0))) 2 58)))) (if (aK (A 0 1023) (A 2)) 5 = 0 then (uLay (zup A 0 1000 0)) else (mRn (aK (A 0 1023) (A 2)) ((aK (A 0 1023) (A 2)) 5) 700 0 (uNil (uSnap (uLay (zup A 0 1000 0))), (fun _ => 0), (fun _ => 0))))) zNX := by
  have ym := hA.R hV
  have nm := ym.n
  have sm := ym.s
  have rm := ym.r
  have hk := hV.ki.1
  have hk0 := hk.1
  have hp0 := hV.pl.1
  have hp1 := hV.pl.2.1
  have hsn := hA.at (j := 1022)
  have hsv := hV.un.1
  have hK0 : aK ((uSnap (uLay (zup A 0 1000 0))) 0 1023) ((uSnap (uLay (zup A 0 1000 0))) 2) = (aK (A 0 1023) (A 2)) := (uSL_K (vBgT hV.bg)).trans aKT
  have hA0 : (uSnap (uLay (zup A 0 1000 0))) 0 1023 = 1 := uSL_b (vBgT hV.bg)
  refine zC.of [zR b, zU, zU, zU, zU, zU] (by decide) rfl (zEn1 (zcR _) (zEn0 (by simp))) rfl ?_
  refine zT.rng hb.a1014 (fun zN => ?_)
  obtain ⟨Q9, eQ9⟩ : ∃ z : zQt, z = (yPo S m b (some (zI (if (aK (A 0 1023) (A 2)) 5 = 0 then -1 else aends (aGo ((mRn (aK (A 0 1023) (A 2)) ((aK (A 0 1023) (A 2)) 5) 700 0 (uNil (uSnap (uLay (zup A 0 1000 0))), (fun _ => 0), (fun _ => 0))) 2) 58) ((mRn (aK (A 0 1023) (A 2)) ((aK (A 0 1023) (A 2)) 5) 700 0 (uNil (uSnap (uLay (zup A 0 1000 0))), (fun _ => 0), (fun _ => 0))) 2 58)))) (if (aK (A 0 1023) (A 2)) 5 = 0 then (uLay (zup A 0 1000 0)) else (mRn (aK (A 0 1023) (A 2)) ((aK (A 0 1023) (A 2)) 5) 700 0 (uNil (uSnap (uLay (zup A 0 1000 0))), (fun _ => 0), (fun _ => 0))))) := ⟨_, rfl⟩
  rw [← eQ9]
  refine zT.aload_n 0 dX13_masters_0 rfl rfl ?_
  refine zT.iconst dX13_masters_1 ?_
  refine zT.putI dX13_masters_2 fX13_122 zs_1000 rfl (zMod.k hb) (j := 0) (by decide) rfl (by first | assumption | exact zq_i _ | exact zand_i _ _ | exact zor_i _ _ | exact zN _ | omega) ?_
  obtain ⟨m1, em1⟩ : ∃ z, z = zup m b 1000 0 := ⟨_, rfl⟩
  rw [← em1]
  have ym1 : yR m1 b A := by rw [em1]; exact ym.up (by omega)
  have nm1 := ym1.n
  have sm1 := ym1.s
  have rm1 := ym1.r
  refine zT.aload_n 0 dX13_masters_5 rfl rfl ?_
  refine zT.callV (M' := mX13_lay) (b := b) [] [] dX13_masters_6 kX13_202 rfl rfl (ci := 10) (r := (RX13, TX13, 62)) rfl (zMod.k hb) (C_X13_lay hb) (by decide) (k' := 0) (n' := 0) (by omega) (by omega) (by decide) (zdk (v := none) ?_) (fun _ _ _ _ h => h.elim)
  show zT G _ _ _ _ [] _ _ _ _ _ _
  obtain ⟨m2, em2⟩ : ∃ z, z = ylaid m1 b := ⟨_, rfl⟩
  rw [← em2]
  have ym2 : yL m2 b A := by rw [em2]; exact hA.L2 hV (fun j => by rw [em1, zup_ne (by omega)]) (by rw [em1, zup_ne (by omega)])
  have nm2 := ym2.1.n
  have sm2 := ym2.1.s
  have rm2 := ym2.1.r
  refine zT.aload_n 0 dX13_masters_9 rfl rfl ?_
  refine zT.callV (M' := mX13_slices) (b := b) [] [] dX13_masters_10 kX13_271 rfl rfl (ci := 10) (r := (RX13, TX13, 62)) rfl (zMod.k hb) (C_X13_slices hb) (by decide) (k' := 0) (n' := 0) (by omega) (by omega) (by decide) (zdk (v := some (zI (m2 (b + 2) (5)))) ?_) (fun _ _ _ _ h => h.elim)
  show zT G _ _ _ _ [zI (m2 (b + 2) (5))] _ _ _ _ _ _
  refine zT.if_ne (tgt := 18) dX13_masters_13 (by decide) (by first | assumption | exact zq_i _ | exact zand_i _ _ | exact zor_i _ _ | exact zN _ | omega) (fun c13 => ?_) (fun c13 => ?_)
  · refine zT.aload_n 0 dX13_masters_18 rfl rfl ?_
    refine zT.callV (M' := mX13_snap) (b := b) [] [] dX13_masters_19 kX13_290 rfl rfl (ci := 10) (r := (RX13, TX13, 62)) rfl (zMod.k hb) (C_X13_snap hb (by rw [em2, ylaid_f (by decide), em1, zup_ne (by omega)]; omega) (by rw [em2, ylaid_f (by decide), em1, zup_ne (by omega)]; omega)) (by decide) (k' := 0) (n' := 0) (by omega) (by omega) (by decide) (zdk (v := none) ?_) (fun _ _ _ _ h => h.elim)
    show zT G _ _ _ _ [] _ _ _ _ _ _
    obtain ⟨m3, em3⟩ : ∃ z, z = ysnap m2 b := ⟨_, rfl⟩
    rw [← em3]
    have ym3 : yL m3 b A := ym2.row (fun j => by rw [em3]; exact ysnap_2)
    have nm3 := ym3.1.n
    have sm3 := ym3.1.s
    have rm3 := ym3.1.r
    refine zT.aload_n 0 dX13_masters_22 rfl rfl ?_
    refine zT.getF dX13_masters_23 fX13_13 rfl (zMod.k hb) (j := 14) (by decide) rfl (zMod.f1014 hb) ?_
    refine zT.bipush dX13_masters_26 ?_
    refine zT.iconst dX13_masters_28 ?_
    refine zT.iast dX13_masters_29 (zMod.a1014 hb) (by first | assumption | exact zq_i _ | exact zand_i _ _ | exact zor_i _ _ | exact zN _ | omega) (by rw [(zMod.n1014 hb)]; first | assumption | exact zq_i _ | exact zand_i _ _ | exact zor_i _ _ | exact zN _ | omega) (by first | assumption | exact zq_i _ | exact zand_i _ _ | exact zor_i _ _ | exact zN _ | omega) ?_
    obtain ⟨m4, em4⟩ : ∃ z, z = zup m3 (b + 2) 58 0 := ⟨_, rfl⟩
    rw [← em4]
    have hE3 : yEw m3 b (uSnap (uLay (zup A 0 1000 0))) := by rw [em3, em2, em1]; exact hA.up0.lay.snap.w
    have hEn : yEw m4 b (uNil (uSnap (uLay (zup A 0 1000 0)))) := by rw [em4]; exact hE3.up
    have hIn : zIn b m m4 := by rw [em4, em3, em2, em1]; exact (zIn.rf.up0.lay.snap).up (by omega) (by omega)
    have hk4 : zMK m4 b (aK (A 0 1023) (A 2)) := hEn.K aPl.rf.nil hA0 hK0
    have k45 := hk4 5 (by omega) (by omega)
    refine zT.iconst dX13_masters_30 ?_
    refine zT.istore_n 1 dX13_masters_31 rfl (by decide) (zpre1 rfl (zcR _)) ?_
    show zT G _ _ _ [zR b, zI 0, zU, zU, zU, zU] _ _ _ _ _ _ _
    refine zT.iconst dX13_masters_32 ?_
    refine zT.istore_n 2 dX13_masters_33 rfl (by decide) (zpre1 rfl (zcI _)) ?_
    show zT G _ _ _ [zR b, zI 0, zI 0, zU, zU, zU] _ _ _ _ _ _ _
    refine zT.iconst dX13_masters_34 ?_
    refine zT.iconst dX13_masters_35 ?_
    refine zT.aload_n 0 dX13_masters_36 rfl rfl ?_
    refine zT.callV (M' := mX13_slices) (b := b) [] [zI 2, zI 1] dX13_masters_37 kX13_271 rfl rfl (ci := 10) (r := (RX13, TX13, 62)) rfl (zMod.k hb) (C_X13_slices hb) (by decide) (k' := 0) (n' := 0) (by omega) (by omega) (by simp only [List.map, zcI, zcJ, zcR, List.sum_cons, List.sum_nil]; decide) (zdk (v := some (zI (m4 (b + 2) (5)))) ?_) (fun _ _ _ _ h => h.elim)
    show zT G _ _ _ _ [zI (m4 (b + 2) (5)), zI 2, zI 1] _ _ _ _ _ _
    rw [k45]
    show zT G _ _ _ _ [zI ((aK (A 0 1023) (A 2)) 5), zI 2, zI 1] _ _ _ _ _ _
    refine zT.imul dX13_masters_40 ?_
    refine zT.ishl dX13_masters_41 (by first | assumption | exact zq_i _ | exact zand_i _ _ | exact zor_i _ _ | exact zN _ | omega) (by first | assumption | exact zq_i _ | exact zand_i _ _ | exact zor_i _ _ | exact zN _ | omega) ?_
    refine zT.iconst dX13_masters_42 ?_
    refine zT.isub dX13_masters_43 ?_
    refine zT.istore_n 3 dX13_masters_44 rfl (by decide) (zpre1 rfl (zcI _)) ?_
    show zT G _ _ _ [zR b, zI 0, zI 0, zI ((1 * 2 ^ (2 * ((aK (A 0 1023) (A 2)) 5)).toNat) - 1), zU, zU] _ _ _ _ _ _ _
    refine zT.aload_n 0 dX13_masters_45 rfl rfl ?_
    refine zT.getF dX13_masters_46 fX13_67 rfl (zMod.k hb) (j := 36) (by decide) rfl (zMod.f1036 hb) ?_
    refine zT.iconst dX13_masters_49 ?_
    refine zT.iconst dX13_masters_50 ?_
    refine zT.iast dX13_masters_51 (zMod.a1036 hb) (by first | assumption | exact zq_i _ | exact zand_i _ _ | exact zor_i _ _ | exact zN _ | omega) (by rw [(zMod.n1036 hb)]; first | assumption | exact zq_i _ | exact zand_i _ _ | exact zor_i _ _ | exact zN _ | omega) (by first | assumption | exact zq_i _ | exact zand_i _ _ | exact zor_i _ _ | exact zN _ | omega) ?_
    obtain ⟨m5, em5⟩ : ∃ z, z = zup m4 (b + 18) 0 0 := ⟨_, rfl⟩
    rw [← em5]
    refine zT.aload_n 0 dX13_masters_52 rfl rfl ?_
    refine zT.getF dX13_masters_53 fX13_67 rfl (zMod.k hb) (j := 36) (by decide) rfl (zMod.f1036 hb) ?_
    refine zT.iconst dX13_masters_56 ?_
    refine zT.iconst dX13_masters_57 ?_
    refine zT.iast dX13_masters_58 (zMod.a1036 hb) (by first | assumption | exact zq_i _ | exact zand_i _ _ | exact zor_i _ _ | exact zN _ | omega) (by rw [(zMod.n1036 hb)]; first | assumption | exact zq_i _ | exact zand_i _ _ | exact zor_i _ _ | exact zN _ | omega) (by first | assumption | exact zq_i _ | exact zand_i _ _ | exact zor_i _ _ | exact zN _ | omega) ?_
    obtain ⟨m6, em6⟩ : ∃ z, z = zup m5 (b + 18) 1 0 := ⟨_, rfl⟩
    rw [← em6]
    refine zT.aload_n 0 dX13_masters_59 rfl rfl ?_
    refine zT.iconst dX13_masters_60 ?_
    refine zT.putI dX13_masters_61 fX13_359 zs_1041 rfl (zMod.k hb) (j := 41) (by decide) rfl (by first | assumption | exact zq_i _ | exact zand_i _ _ | exact zor_i _ _ | exact zN _ | omega) ?_
    obtain ⟨m7, em7⟩ : ∃ z, z = zup m6 b 1041 0 := ⟨_, rfl⟩
    rw [← em7]
    have hsc : zSc b m4 m7 := by rw [em7, em6, em5]; exact ((zSc.rf.up (by omega) (by unfold zUw; omega)).up (by omega) (by unfold zUw; omega)).up0 (by unfold zUw; omega)
    have hE4 := hEn.sc hsc
    have hI4 := hIn.tr hsc.inn
    have hF4 : ∀ c, (c = 0 ∨ c = 1) → m7 (b + 18) c = (fun _ => (0 : Int)) c := fun c hc => by
          rw [em7, zup_ne (by omega), em6]
          rcases hc with rfl | rfl
          · rw [zup_ne (by omega), em5, zup_at]
          · rw [zup_at]
    have hmn4 : m7 b 1041 = 0 := by rw [em7, zup_at]
    obtain ⟨T, hT9⟩ : ∃ z, z = fAll (aK (A 0 1023) (A 2)) ((aK (A 0 1023) (A 2)) 5) := ⟨_, rfl⟩
    have hTb := fAll_b hk (k := ((aK (A 0 1023) (A 2)) 5)) (by omega) (by omega)
    rw [← hT9] at hTb
    obtain ⟨R, hR9⟩ : ∃ z, z = mRn (aK (A 0 1023) (A 2)) ((aK (A 0 1023) (A 2)) 5) 700 0 (uNil (uSnap (uLay (zup A 0 1000 0))), (fun _ => 0), (fun _ => 0)) := ⟨_, rfl⟩
    have hR9 := hR9.symm
    have L64 : ∀ (N : Nat) (mA : zMm) (B0 : zMm) (E0 : Int → Int) (F0 : Int → Int) (bg0 : Int) (go0 : Int) (t : Int) (f : Nat), (yEw mA b B0) → (zIn b m mA) → (aPl (uSnap (uLay (zup A 0 1000 0))) B0) → (∀ c, (c = 0 ∨ c = 1) → mA (b + 18) c = F0 c) → (∀ c, (c = 0 ∨ c = 1) → (∀ s, 0 ≤ s → s < ((aK (A 0 1023) (A 2)) 5) → s ≠ mA (b + 19) c → E0 (2 * s + c) ≤ t) ∧ (t < F0 c → E0 (2 * mA (b + 19) c + c) = F0 c)) → (0 ≤ bg0 ∧ bg0 < 2 ^ (((aK (A 0 1023) (A 2)) 5)).toNat) → (0 ≤ go0 ∧ go0 < 2 ^ (2 * ((aK (A 0 1023) (A 2)) 5)).toNat) → (∀ s, 0 ≤ s → s < ((aK (A 0 1023) (A 2)) 5) → (zbit bg0 s ↔ ¬ fUn E0 s)) → (∀ j, 0 ≤ j → j < 2 * ((aK (A 0 1023) (A 2)) 5) → (zbit go0 j ↔ E0 j ≠ 0)) → (mA b 1041 = t) → (zGV (B0 2 58) (aGo (B0 2) 58)) → (mIv (aK (A 0 1023) (A 2)) ((aK (A 0 1023) (A 2)) 5) T t (B0, E0, F0)) → (0 ≤ t) → (t + f = 700) → (mRn (aK (A 0 1023) (A 2)) ((aK (A 0 1023) (A 2)) 5) f t (B0, E0, F0) = R) → f < N → zT G mX13_masters 4 64 [zR b, zI bg0, zI go0, zI (1 * 2 ^ (2 * ((aK (A 0 1023) (A 2)) 5)).toNat - 1), zU, zU] [] S mA 0 0 Q9 zNX := by
      intro N
      induction N with
      | zero => intro mA B0 E0 F0 bg0 go0 t f hE0 hZ0 hP0 hF0 hO0 hb10 hg10 hbg0 hgo0 hmn0 hgv0 hI0 t00 hf hT hN; exact absurd hN (Nat.not_lt_zero _)
      | succ N ih64 =>
        intro mA B0 E0 F0 bg0 go0 t f hE0 hZ0 hP0 hF0 hO0 hb10 hg10 hbg0 hgo0 hmn0 hgv0 hI0 t00 hf hT hN
        have hk9 := hE0.K hP0 hA0 hK0
        have k05 := hk9 5 (by omega) (by omega)
        have hW0 : 0 ≤ mW (aK (A 0 1023) (A 2)) E0 ((aK (A 0 1023) (A 2)) 5) := (zs_b (B := 20) (by omega) (fun j a b => by have := fL0_b hk a (by omega); split <;> omega)).1
        have hI5 := hI0.2.2.2.2.1
        have hab := acnt_b (P := fun j => E0 j = 0) (k := 2 * ((aK (A 0 1023) (A 2)) 5)) (by omega)
        have hI6 := hI0.2.2.2.2.2
        have hI2 := hI0.2.1
        simp only at hI5 hI6 hI2
        have kn9 := hE0.n
        have hib : zi bg0 := zpi hb10 (by omega)
        have hig : zi go0 := zpi hg10 (by omega)
        have hall := zbit_all hg10.1 (show 0 ≤ 2 * ((aK (A 0 1023) (A 2)) 5) by omega) hg10.2
        have hai : zi (1 * 2 ^ (2 * ((aK (A 0 1023) (A 2)) 5)).toNat - 1) := zpi ⟨by have : (0 : Int) < 2 ^ (2 * ((aK (A 0 1023) (A 2)) 5)).toNat := Int.pow_pos (by omega); omega, by omega⟩ (show 2 * ((aK (A 0 1023) (A 2)) 5) ≤ 16 by omega)
        refine zT.iload_n 2 dX13_masters_64 rfl rfl ?_
        refine zT.iload_n 3 dX13_masters_65 rfl rfl ?_
        refine zT.ic_eq (tgt := 203) dX13_masters_66 (by decide) (by first | assumption | exact zq_i _ | exact zand_i _ _ | exact zor_i _ _ | exact zN _ | omega) (by first | assumption | exact zq_i _ | exact zand_i _ _ | exact zor_i _ _ | exact zN _ | omega) (fun c66 => ?_) (fun c66 => ?_)
        · have hal : mAl ((aK (A 0 1023) (A 2)) 5) E0 := fun j a b => (hgo0 j a b).mp (hall.mp (by omega) j a b)
          have hRB : B0 = R := by rw [← hT, mRn_0 hal]
          subst hRB
          have hgR := hE0.G
          have hrow9 := hE0.row hP0 hA0 hK0 hk hgv0
          refine zT.aload_n 0 dX13_masters_203 rfl rfl ?_
          refine zT.callV (M' := mX13_endsAt) (b := b) [] [] dX13_masters_204 kX13_321 rfl rfl (ci := 10) (r := (RX13, TX13, 62)) rfl (zMod.k hb) (C_X13_endsAt hb hrow9) (by decide) (k' := 0) (n' := 0) (by omega) (by omega) (by decide) (zdk (v := some (zI (yends mA b (mA (b + 2) 58)))) ?_) (fun _ _ _ _ h => h.elim)
          show zT G _ _ _ _ [zI (yends mA b (mA (b + 2) 58))] _ _ _ _ _ _
          refine zT.iret dX13_masters_207 rfl ?_
          rw [eQ9]
          rw [hR9]
          exact ⟨by rw [if_neg (by omega), hE0.n, yends_a hgR (Int.le_refl _)], rfl, hZ0, by rw [if_neg (by omega)]; exact hE0⟩
        · obtain ⟨ST, hST⟩ : ∃ z, z = mRs (aK (A 0 1023) (A 2)) ((aK (A 0 1023) (A 2)) 5) t 0 (B0, E0, F0) := ⟨_, rfl⟩
          have hnal : ¬ mAl ((aK (A 0 1023) (A 2)) 5) E0 := fun z => absurd (hall.mpr (fun j a b => (hgo0 j a b).mpr (z j a b))) (by omega)
          have ht9 : t ≤ 320 := by omega
          obtain ⟨f, rfl⟩ : ∃ g, f = g + 1 := ⟨f - 1, by omega⟩
          refine zT.iconst dX13_masters_69 ?_
          refine zT.istore 4 dX13_masters_70 (by decide) (zpre1 rfl (zcI _)) ?_
          show zT G _ _ _ [zR b, zI bg0, zI go0, zI (1 * 2 ^ (2 * ((aK (A 0 1023) (A 2)) 5)).toNat - 1), zI 0, zU] _ _ _ _ _ _ _
          have L72 : ∀ (N : Nat) (mB : zMm) (B : zMm) (E : Int → Int) (F : Int → Int) (bg : Int) (go : Int) (c : Int), (yEw mB b B) → (zIn b m mB) → (aPl (uSnap (uLay (zup A 0 1000 0))) B) → (∀ c, (c = 0 ∨ c = 1) → mB (b + 18) c = F c) → (∀ c, (c = 0 ∨ c = 1) → (∀ s, 0 ≤ s → s < ((aK (A 0 1023) (A 2)) 5) → s ≠ mB (b + 19) c → E (2 * s + c) ≤ t) ∧ (t < F c → E (2 * mB (b + 19) c + c) = F c)) → (0 ≤ bg ∧ bg < 2 ^ (((aK (A 0 1023) (A 2)) 5)).toNat) → (0 ≤ go ∧ go < 2 ^ (2 * ((aK (A 0 1023) (A 2)) 5)).toNat) → (∀ s, 0 ≤ s → s < ((aK (A 0 1023) (A 2)) 5) → (zbit bg s ↔ ¬ fUn E s)) → (∀ j, 0 ≤ j → j < 2 * ((aK (A 0 1023) (A 2)) 5) → (zbit go j ↔ E j ≠ 0)) → (mB b 1041 = t) → (zGV (B 2 58) (aGo (B 2) 58)) → (mIv (aK (A 0 1023) (A 2)) ((aK (A 0 1023) (A 2)) 5) T t (B, E, F)) → (0 ≤ t) → (0 ≤ c) → (c ≤ 2) → (mRs (aK (A 0 1023) (A 2)) ((aK (A 0 1023) (A 2)) 5) t c (B, E, F) = ST) → ((2 - c).toNat) < N → zT G mX13_masters 4 72 [zR b, zI bg, zI go, zI (1 * 2 ^ (2 * ((aK (A 0 1023) (A 2)) 5)).toNat - 1), zI c, zU] [] S mB 0 0 Q9 zNX := by
            intro N
            induction N with
            | zero => intro mB B E F bg go c hE hZ hP hF hO hb1 hg1 hbg hgo hmn hgv hI t0 c0 c2 hT2 hN; exact absurd hN (Nat.not_lt_zero _)
            | succ N ih72 =>
              intro mB B E F bg go c hE hZ hP hF hO hb1 hg1 hbg hgo hmn hgv hI t0 c0 c2 hT2 hN
              have hk9 := hE.K hP hA0 hK0
              have k05 := hk9 5 (by omega) (by omega)
              have hW0 : 0 ≤ mW (aK (A 0 1023) (A 2)) E ((aK (A 0 1023) (A 2)) 5) := (zs_b (B := 20) (by omega) (fun j a b => by have := fL0_b hk a (by omega); split <;> omega)).1
              have hI5 := hI.2.2.2.2.1
              have hab := acnt_b (P := fun j => E j = 0) (k := 2 * ((aK (A 0 1023) (A 2)) 5)) (by omega)
              have hI6 := hI.2.2.2.2.2
              have hI2 := hI.2.1
              simp only at hI5 hI6 hI2
              have kn9 := hE.n
              have hib : zi bg := zpi hb1 (by omega)
              have hig : zi go := zpi hg1 (by omega)
              refine zT.iload 4 dX13_masters_72 rfl ?_
              refine zT.iconst dX13_masters_74 ?_
              refine zT.ic_ge (tgt := 190) dX13_masters_75 (by decide) (by first | assumption | exact zq_i _ | exact zand_i _ _ | exact zor_i _ _ | exact zN _ | omega) (by first | assumption | exact zq_i _ | exact zand_i _ _ | exact zor_i _ _ | exact zN _ | omega) (fun c75 => ?_) (fun c75 => ?_)
              · have hc2 : c = 2 := by omega
                subst hc2
                rw [mRs_2] at hT2
                have hSS : mSt (aK (A 0 1023) (A 2)) ((aK (A 0 1023) (A 2)) 5) t 1 (mSt (aK (A 0 1023) (A 2)) ((aK (A 0 1023) (A 2)) 5) t 0 (B0, E0, F0)) = (B, E, F) := by
                                  rw [hT2, hST]
                                  rfl
                have hbz : t < F 0 ∨ t < F 1 := by have q := mSt_p hI0 hk rfl t00 hnal; rw [hSS] at q; exact q
                refine zT.aload_n 0 dX13_masters_190 rfl rfl ?_
                refine zT.dup dX13_masters_191 (zcR _) ?_
                refine zT.getI dX13_masters_192 fX13_359 rfl (zMod.k hb) (j := 41) (by decide) rfl (fun z192 => ?_)
                rw [hmn]
                show zT G _ _ _ _ [zI t, zR b] _ _ _ _ _ _
                refine zT.iconst dX13_masters_195 ?_
                refine zT.iadd dX13_masters_196 ?_
                refine zT.putI dX13_masters_197 fX13_359 zs_1041 rfl (zMod.k hb) (j := 41) (by decide) rfl (by first | assumption | exact zq_i _ | exact zand_i _ _ | exact zor_i _ _ | exact zN _ | omega) ?_
                obtain ⟨m8, em8⟩ : ∃ z, z = zup mB b 1041 (t + 1) := ⟨_, rfl⟩
                rw [← em8]
                have hsc5 : zSc b mB m8 := by rw [em8]; exact zSc.rf.up0 (by unfold zUw; omega)
                have hE5 := hE.sc hsc5
                have hZ5 := hZ.tr hsc5.inn
                have hF5 : ∀ c, (c = 0 ∨ c = 1) → m8 (b + 18) c = F c := fun c hc => by rw [em8, zup_ne (by omega)]; exact hF c hc
                have hO5 : ∀ c, (c = 0 ∨ c = 1) → (∀ s, 0 ≤ s → s < ((aK (A 0 1023) (A 2)) 5) → s ≠ m8 (b + 19) c → E (2 * s + c) ≤ t + 1) ∧ (t + 1 < F c → E (2 * m8 (b + 19) c + c) = F c) := fun c hc => by rw [em8, zup_ne (by omega)]; have q := hO c hc; exact ⟨fun s a b e => by have := q.1 s a b e; omega, fun z => q.2 (by omega)⟩
                have hmn5 : m8 b 1041 = t + 1 := by rw [em8, zup_at]
                refine zT.goto (tgt := 64) dX13_masters_200 (by decide) ?_
                refine zT.loc (V' := [zR b, zI bg, zI go, zI (1 * 2 ^ (2 * ((aK (A 0 1023) (A 2)) 5)).toNat - 1), zU, zU]) ?_ ⟨Or.inr rfl, Or.inr rfl, Or.inr rfl, Or.inr rfl, Or.inl rfl, Or.inr rfl, trivial⟩
                exact ih64 _ _ _ _ _ _ _ f (by exact hE5) (by exact hZ5) (by exact hP) (by exact hF5) (by exact hO5) (by exact hb1) (by exact hg1) (by exact hbg) (by exact hgo) (by exact hmn5) (by exact hgv) (by exact hI.nx hbz) (by omega) (by omega) (by rw [← hT, mRn_1 hnal, ← hSS]) (by omega)
              · have hc9 : c = 0 ∨ c = 1 := by omega
                have hFc := hF c hc9
                have hFd := hF (1 - c) (by omega)
                have hOd := hO (1 - c) (by omega)
                refine zT.aload_n 0 dX13_masters_78 rfl rfl ?_
                refine zT.getF dX13_masters_79 fX13_67 rfl (zMod.k hb) (j := 36) (by decide) rfl (zMod.f1036 hb) ?_
                refine zT.iload 4 dX13_masters_82 rfl ?_
                refine zT.iald dX13_masters_84 (zMod.a1036 hb) (by first | assumption | exact zq_i _ | exact zand_i _ _ | exact zor_i _ _ | exact zN _ | omega) (by rw [(zMod.n1036 hb)]; first | assumption | exact zq_i _ | exact zand_i _ _ | exact zor_i _ _ | exact zN _ | omega) (fun z84 => ?_)
                refine zT.aload_n 0 dX13_masters_85 rfl rfl ?_
                refine zT.getI dX13_masters_86 fX13_359 rfl (zMod.k hb) (j := 41) (by decide) rfl (fun z86 => ?_)
                rw [hmn]
                show zT G _ _ _ _ [zI t, zI (mB (b + 18) c)] _ _ _ _ _ _
                refine zT.ic_le (tgt := 95) dX13_masters_89 (by decide) (by first | assumption | exact zq_i _ | exact zand_i _ _ | exact zor_i _ _ | exact zN _ | omega) (by first | assumption | exact zq_i _ | exact zand_i _ _ | exact zor_i _ _ | exact zN _ | omega) (fun c89 => ?_) (fun c89 => ?_)
                · refine zT.aload_n 0 dX13_masters_95 rfl rfl ?_
                  refine zT.iload 4 dX13_masters_96 rfl ?_
                  refine zT.iload_n 1 dX13_masters_98 rfl rfl ?_
                  refine zT.iload_n 2 dX13_masters_99 rfl rfl ?_
                  refine zT.callV (M' := mX13_takes) (b := b) [zI c, zI bg, zI go] [] dX13_masters_100 kX13_362 rfl rfl (ci := 10) (r := (RX13, TX13, 62)) rfl (zMod.k hb) (C_X13_takes (K := (aK (A 0 1023) (A 2))) (E := E) hb hk9 hk hc9 hib hig hbg hgo hFd rfl hmn (fun s a b => by have q := hI.2.2.1 s (1 - c) a b (by omega); rw [show 2 * s + 1 - c = 2 * s + (1 - c) by omega]; exact q) (fun s a b e => by have q := hOd.1 s a b e; rw [show 2 * s + 1 - c = 2 * s + (1 - c) by omega]; exact q) (fun q => by have z := hOd.2 q; rw [show 2 * mB (b + 19) (1 - c) + 1 - c = 2 * mB (b + 19) (1 - c) + (1 - c) by omega]; exact z)) (by decide) (k' := 0) (n' := 0) (by omega) (by omega) (by decide) (zdk (v := some (zI (pup (aK (A 0 1023) (A 2)) E c t ((aK (A 0 1023) (A 2)) 5)))) ?_) (fun _ _ _ _ h => h.elim)
                  show zT G _ _ _ _ [zI (pup (aK (A 0 1023) (A 2)) E c t ((aK (A 0 1023) (A 2)) 5))] _ _ _ _ _ _
                  have hpi := pup_i (K := (aK (A 0 1023) (A 2))) (E := E) (c := c) (m := t) (n := ((aK (A 0 1023) (A 2)) 5)) (by omega) hc9 (fun _ _ _ => Or.inr (Or.inr trivial))
                  obtain ⟨s, hs⟩ : ∃ z, z = pup (aK (A 0 1023) (A 2)) E c t ((aK (A 0 1023) (A 2)) 5) := ⟨_, rfl⟩
                  rw [← hs] at hpi ⊢
                  show zT G _ _ _ _ [zI s] _ _ _ _ _ _
                  refine zT.istore 5 dX13_masters_103 (by decide) (zpre1 rfl (zcI _)) ?_
                  show zT G _ _ _ [zR b, zI bg, zI go, zI (1 * 2 ^ (2 * ((aK (A 0 1023) (A 2)) 5)).toNat - 1), zI c, zI s] _ _ _ _ _ _ _
                  refine zT.iload 5 dX13_masters_105 rfl ?_
                  refine zT.iconst dX13_masters_107 ?_
                  refine zT.ic_ne (tgt := 114) dX13_masters_108 (by decide) (by first | assumption | exact zq_i _ | exact zand_i _ _ | exact zor_i _ _ | exact zN _ | omega) (by first | assumption | exact zq_i _ | exact zand_i _ _ | exact zor_i _ _ | exact zN _ | omega) (fun c108 => ?_) (fun c108 => ?_)
                  · obtain ⟨s0, s1, hEs⟩ : 0 ≤ s ∧ s < ((aK (A 0 1023) (A 2)) 5) ∧ E (2 * s + c) = 0 := by rcases hpi with q | q; exact absurd q.1 (by omega); exact q
                    have hks := hk.2.1 s s0 (by omega)
                    have hkl : 1 ≤ (aK (A 0 1023) (A 2)) (8 + 3 * s + c) ∧ (aK (A 0 1023) (A 2)) (8 + 3 * s + c) ≤ 20 := by rcases hc9 with rfl | rfl <;> omega
                    have hI3 := hI.tk hk rfl t0 hc9 (by show F c ≤ t; omega) s0 s1 hEs hI6.1
                    have hmi : ∀ mm : zMm, (∀ j, mm (b + 2) j = mB (b + 2) j) → mm (b + 2) (8 + 3 * s + c) = (aK (A 0 1023) (A 2)) (8 + 3 * s + c) := fun mm q => by rw [q]; exact hk9 _ (by omega) (by omega)
                    refine zT.iload_n 1 dX13_masters_114 rfl rfl ?_
                    refine zT.iconst dX13_masters_115 ?_
                    refine zT.iload 5 dX13_masters_116 rfl ?_
                    refine zT.ishl dX13_masters_118 (by first | assumption | exact zq_i _ | exact zand_i _ _ | exact zor_i _ _ | exact zN _ | omega) (by first | assumption | exact zq_i _ | exact zand_i _ _ | exact zor_i _ _ | exact zN _ | omega) ?_
                    refine zT.ior dX13_masters_119 ?_
                    refine zT.istore_n 1 dX13_masters_120 rfl (by decide) (zpre1 rfl (zcR _)) ?_
                    show zT G _ _ _ [zR b, zI (zor bg (1 * 2 ^ s.toNat)), zI go, zI (1 * 2 ^ (2 * ((aK (A 0 1023) (A 2)) 5)).toNat - 1), zI c, zI s] _ _ _ _ _ _ _
                    refine zT.iload_n 2 dX13_masters_121 rfl rfl ?_
                    refine zT.iconst dX13_masters_122 ?_
                    refine zT.iconst dX13_masters_123 ?_
                    refine zT.iload 5 dX13_masters_124 rfl ?_
                    refine zT.imul dX13_masters_126 ?_
                    refine zT.iload 4 dX13_masters_127 rfl ?_
                    refine zT.iadd dX13_masters_129 ?_
                    refine zT.ishl dX13_masters_130 (by first | assumption | exact zq_i _ | exact zand_i _ _ | exact zor_i _ _ | exact zN _ | omega) (by first | assumption | exact zq_i _ | exact zand_i _ _ | exact zor_i _ _ | exact zN _ | omega) ?_
                    refine zT.ior dX13_masters_131 ?_
                    refine zT.istore_n 2 dX13_masters_132 rfl (by decide) (zpre1 rfl (zcI _)) ?_
                    show zT G _ _ _ [zR b, zI (zor bg (1 * 2 ^ s.toNat)), zI (zor go (1 * 2 ^ ((2 * s) + c).toNat)), zI (1 * 2 ^ (2 * ((aK (A 0 1023) (A 2)) 5)).toNat - 1), zI c, zI s] _ _ _ _ _ _ _
                    refine zT.aload_n 0 dX13_masters_133 rfl rfl ?_
                    refine zT.getF dX13_masters_134 fX13_70 rfl (zMod.k hb) (j := 37) (by decide) rfl (zMod.f1037 hb) ?_
                    refine zT.iload 4 dX13_masters_137 rfl ?_
                    refine zT.iload 5 dX13_masters_139 rfl ?_
                    refine zT.iast dX13_masters_141 (zMod.a1037 hb) (by first | assumption | exact zq_i _ | exact zand_i _ _ | exact zor_i _ _ | exact zN _ | omega) (by rw [(zMod.n1037 hb)]; first | assumption | exact zq_i _ | exact zand_i _ _ | exact zor_i _ _ | exact zN _ | omega) (by first | assumption | exact zq_i _ | exact zand_i _ _ | exact zor_i _ _ | exact zN _ | omega) ?_
                    obtain ⟨m9, em9⟩ : ∃ z, z = zup mB (b + 19) c s := ⟨_, rfl⟩
                    rw [← em9]
                    refine zT.aload_n 0 dX13_masters_142 rfl rfl ?_
                    refine zT.getF dX13_masters_143 fX13_67 rfl (zMod.k hb) (j := 36) (by decide) rfl (zMod.f1036 hb) ?_
                    refine zT.iload 4 dX13_masters_146 rfl ?_
                    refine zT.aload_n 0 dX13_masters_148 rfl rfl ?_
                    refine zT.getI dX13_masters_149 fX13_359 rfl (zMod.k hb) (j := 41) (by decide) rfl (fun z149 => ?_)
                    have r149 : m9 b 1041 = mB b 1041 := by rw [em9, zup_ne (by omega)]
                    rw [r149] at z149 ⊢
                    rw [hmn]
                    show zT G _ _ _ _ [zI t, zI c, zR (b + 18)] _ _ _ _ _ _
                    refine zT.aload_n 0 dX13_masters_152 rfl rfl ?_
                    refine zT.iload 5 dX13_masters_153 rfl ?_
                    refine zT.iload 4 dX13_masters_155 rfl ?_
                    refine zT.callV (M' := mX13_needs) (b := b) [zI s, zI c] [zI t, zI c, zR (b + 18)] dX13_masters_157 kX13_309 rfl rfl (ci := 10) (r := (RX13, TX13, 62)) rfl (zMod.k hb) (C_X13_needs hb (by omega) (by omega)) (by decide) (k' := 0) (n' := 0) (by omega) (by omega) (by simp only [List.map, zcI, zcJ, zcR, List.sum_cons, List.sum_nil]; decide) (zdk (v := some (zI (m9 (b + 2) (8 + 3 * s + c)))) ?_) (fun _ _ _ _ h => h.elim)
                    show zT G _ _ _ _ [zI (m9 (b + 2) (8 + 3 * s + c)), zI t, zI c, zR (b + 18)] _ _ _ _ _ _
                    rw [hmi m9 (fun j => by rw [em9, zup_ne (by omega)])]
                    show zT G _ _ _ _ [zI ((aK (A 0 1023) (A 2)) (8 + 3 * s + c)), zI t, zI c, zR (b + 18)] _ _ _ _ _ _
                    refine zT.iadd dX13_masters_160 ?_
                    refine zT.iast dX13_masters_161 (zMod.a1036 hb) (by first | assumption | exact zq_i _ | exact zand_i _ _ | exact zor_i _ _ | exact zN _ | omega) (by rw [(zMod.n1036 hb)]; first | assumption | exact zq_i _ | exact zand_i _ _ | exact zor_i _ _ | exact zN _ | omega) (by first | assumption | exact zq_i _ | exact zand_i _ _ | exact zor_i _ _ | exact zN _ | omega) ?_
                    obtain ⟨m10, em10⟩ : ∃ z, z = zup m9 (b + 18) c (t + ((aK (A 0 1023) (A 2)) (8 + 3 * s + c))) := ⟨_, rfl⟩
                    rw [← em10]
                    refine zT.aload_n 0 dX13_masters_162 rfl rfl ?_
                    refine zT.iload 5 dX13_masters_163 rfl ?_
                    refine zT.iload 4 dX13_masters_165 rfl ?_
                    refine zT.aload_n 0 dX13_masters_167 rfl rfl ?_
                    refine zT.getI dX13_masters_168 fX13_359 rfl (zMod.k hb) (j := 41) (by decide) rfl (fun z168 => ?_)
                    have r168 : m10 b 1041 = mB b 1041 := by rw [em10, zup_ne (by omega), em9, zup_ne (by omega)]
                    rw [r168] at z168 ⊢
                    rw [hmn]
                    show zT G _ _ _ _ [zI t, zI c, zI s, zR b] _ _ _ _ _ _
                    refine zT.iload 4 dX13_masters_171 rfl ?_
                    refine zT.aload_n 0 dX13_masters_173 rfl rfl ?_
                    refine zT.iload 5 dX13_masters_174 rfl ?_
                    refine zT.iload 4 dX13_masters_176 rfl ?_
                    refine zT.callV (M' := mX13_needs) (b := b) [zI s, zI c] [zI c, zI t, zI c, zI s, zR b] dX13_masters_178 kX13_309 rfl rfl (ci := 10) (r := (RX13, TX13, 62)) rfl (zMod.k hb) (C_X13_needs hb (by omega) (by omega)) (by decide) (k' := 0) (n' := 0) (by omega) (by omega) (by simp only [List.map, zcI, zcJ, zcR, List.sum_cons, List.sum_nil]; decide) (zdk (v := some (zI (m10 (b + 2) (8 + 3 * s + c)))) ?_) (fun _ _ _ _ h => h.elim)
                    show zT G _ _ _ _ [zI (m10 (b + 2) (8 + 3 * s + c)), zI c, zI t, zI c, zI s, zR b] _ _ _ _ _ _
                    rw [hmi m10 (fun j => by rw [em10, zup_ne (by omega), em9, zup_ne (by omega)])]
                    show zT G _ _ _ _ [zI ((aK (A 0 1023) (A 2)) (8 + 3 * s + c)), zI c, zI t, zI c, zI s, zR b] _ _ _ _ _ _
                    have hsc2 : zSc b mB m10 := by rw [em10, em9]; exact (zSc.rf.up (by omega) (by unfold zUw; omega)).up (by omega) (by unfold zUw; omega)
                    have hEl := hE.sc hsc2
                    have knl := hEl.n
                    refine zT.callV (M' := mX13_lays) (b := b) [zI s, zI c, zI t, zI c, zI ((aK (A 0 1023) (A 2)) (8 + 3 * s + c))] [] dX13_masters_181 kX13_293 rfl rfl (ci := 10) (r := (RX13, TX13, 62)) rfl (zMod.k hb) (C_X13_lays hb (by omega) (by omega) (by omega) (by omega) (by omega) (by omega) (by omega)) (by decide) (k' := 0) (n' := 0) (by omega) (by omega) (by decide) (zdk (v := none) ?_) (fun _ _ _ _ h => h.elim)
                    show zT G _ _ _ _ [] _ _ _ _ _ _
                    obtain ⟨m11, em11⟩ : ∃ z, z = ylay m10 b s c t c ((aK (A 0 1023) (A 2)) (8 + 3 * s + c)) := ⟨_, rfl⟩
                    rw [← em11]
                    have hE2 : yEw m11 b (uGo B s c t c ((aK (A 0 1023) (A 2)) (8 + 3 * s + c))) := by rw [em11]; exact hEl.go
                    have hZ2 : zIn b m m11 := by rw [em11]; exact (hZ.tr hsc2.inn).go
                    have hP2 : aPl (uSnap (uLay (zup A 0 1000 0))) (uGo B s c t c ((aK (A 0 1023) (A 2)) (8 + 3 * s + c))) := hP.go (by omega) (by omega)
                    have ffr : ∀ j, m11 (b + 18) j = m10 (b + 18) j := fun j => by rw [em11]; unfold ylay; rw [zup_ne (by omega), zup_ne (by omega), zup_ne (by omega), zup_ne (by omega), zup_ne (by omega), zup_ne (by omega)]
                    have ffo : ∀ j, m11 (b + 19) j = m10 (b + 19) j := fun j => by rw [em11]; unfold ylay; rw [zup_ne (by omega), zup_ne (by omega), zup_ne (by omega), zup_ne (by omega), zup_ne (by omega), zup_ne (by omega)]
                    have hF2 : ∀ d, (d = 0 ∨ d = 1) → m11 (b + 18) d = fSet F c (t + (aK (A 0 1023) (A 2)) (8 + 3 * s + c)) d := fun d hd => by
                                          rw [ffr, em10]
                                          by_cases q : d = c
                                          · rw [q, zup_at, fSet_at]
                                          · rw [zup_ne (by omega), fSet_ne q, em9, zup_ne (by omega)]; exact hF d hd
                    have hO2 : ∀ d, (d = 0 ∨ d = 1) → (∀ r, 0 ≤ r → r < ((aK (A 0 1023) (A 2)) 5) → r ≠ m11 (b + 19) d → fSet E (2 * s + c) (t + (aK (A 0 1023) (A 2)) (8 + 3 * s + c)) (2 * r + d) ≤ t) ∧ (t < fSet F c (t + (aK (A 0 1023) (A 2)) (8 + 3 * s + c)) d → fSet E (2 * s + c) (t + (aK (A 0 1023) (A 2)) (8 + 3 * s + c)) (2 * m11 (b + 19) d + d) = fSet F c (t + (aK (A 0 1023) (A 2)) (8 + 3 * s + c)) d) := fun d hd => by
                                          rw [ffo, em10, zup_ne (by omega), em9]
                                          by_cases q : d = c
                                          · rw [q, zup_at]
                                            refine ⟨fun r r0 r1 r2 => ?_, fun _ => by rw [fSet_at, fSet_at]⟩
                                            rw [fSet_ne (by omega)]
                                            have q2 := hI.2.2.1 r c r0 r1 hc9
                                            have q3 : F c ≤ t := by omega
                                            exact Int.le_trans q2 q3
                                          · rw [zup_ne (by omega)]
                                            have q2 := hO d hd
                                            refine ⟨fun r r0 r1 r2 => ?_, fun z => ?_⟩
                                            · rw [fSet_ne (by omega)]; exact q2.1 r r0 r1 r2
                                            · rw [fSet_ne q] at z ⊢
                                              rw [fSet_ne (by omega)]; exact q2.2 z
                    have hb2 := zor_r (n := ((aK (A 0 1023) (A 2)) 5)) hb1.1 hb1.2 s0 s1 (by omega)
                    have hg2 := zor_r (n := 2 * ((aK (A 0 1023) (A 2)) 5)) (j := 2 * s + c) hg1.1 hg1.2 (by omega) (by omega) (by omega)
                    have hbg2 : ∀ r, 0 ≤ r → r < ((aK (A 0 1023) (A 2)) 5) → (zbit (zor bg (1 * 2 ^ s.toNat)) r ↔ ¬ fUn (fSet E (2 * s + c) (t + (aK (A 0 1023) (A 2)) (8 + 3 * s + c))) r) := fun r r0 r1 => by
                                          rw [zbit_or hb1.1 hib.2 s0 (by omega) r0, hbg r r0 r1]
                                          unfold fUn
                                          by_cases q : r = s
                                          · rw [q]
                                            refine ⟨fun _ z => ?_, fun _ => Or.inr rfl⟩
                                            rcases hc9 with rfl | rfl
                                            · have z1 := z.1
                                              rw [show 2 * s + 0 = 2 * s by omega, fSet_at] at z1
                                              omega
                                            · have z2 := z.2
                                              rw [fSet_at] at z2
                                              omega
                                          · rw [fSet_ne (by omega), fSet_ne (by omega)]
                                            exact ⟨fun z => z.elim id (fun z => absurd z q), fun z => Or.inl z⟩
                    have hgo2 : ∀ j, 0 ≤ j → j < 2 * ((aK (A 0 1023) (A 2)) 5) → (zbit (zor go (1 * 2 ^ (2 * s + c).toNat)) j ↔ fSet E (2 * s + c) (t + (aK (A 0 1023) (A 2)) (8 + 3 * s + c)) j ≠ 0) := fun j j0 j1 => by
                                          rw [zbit_or hg1.1 hig.2 (by omega) (by omega) j0, hgo j j0 j1]
                                          by_cases q : j = 2 * s + c
                                          · rw [q, fSet_at]
                                            exact ⟨fun _ => by omega, fun _ => Or.inr rfl⟩
                                          · rw [fSet_ne q]
                                            exact ⟨fun z => z.elim id (fun z => absurd z q), fun z => Or.inl z⟩
                    have hmn2 : m11 b 1041 = t := by rw [em11]; unfold ylay; rw [zup_ne (by omega), zup_ne (by omega), zup_ne (by omega), zup_ne (by omega), zup_ne (by omega), zup_ne (by omega), em10, zup_ne (by omega), em9, zup_ne (by omega)]; exact hmn
                    refine zT.iinc 4 dX13_masters_184 rfl (by decide) (zpre1 rfl (zcI _)) ?_
                    show zT G _ _ _ [zR b, zI (zor bg (1 * 2 ^ s.toNat)), zI (zor go (1 * 2 ^ ((2 * s) + c).toNat)), zI (1 * 2 ^ (2 * ((aK (A 0 1023) (A 2)) 5)).toNat - 1), zI (c + 1), zI s] _ _ _ _ _ _ _
                    refine zT.goto (tgt := 72) dX13_masters_187 (by decide) ?_
                    refine zT.loc (V' := [zR b, zI (zor bg (1 * 2 ^ s.toNat)), zI (zor go (1 * 2 ^ ((2 * s) + c).toNat)), zI (1 * 2 ^ (2 * ((aK (A 0 1023) (A 2)) 5)).toNat - 1), zI (c + 1), zU]) ?_ ⟨Or.inr rfl, Or.inr rfl, Or.inr rfl, Or.inr rfl, Or.inr rfl, Or.inl rfl, trivial⟩
                    exact ih72 _ _ _ _ _ _ _ (by exact hE2) (by exact hZ2) (by exact hP2) (by exact hF2) (by exact hO2) (by exact hb2) (by exact hg2) (by exact hbg2) (by exact hgo2) (by exact hmn2) (by exact hgv.go (by omega) (by omega)) (by exact hI3) (by exact t0) (by omega) (by omega) (by
                        rw [← hT2, mRs_s c0 (by omega), mSt_t (s := s) (show ¬ t < F c by omega) hs.symm (by omega)]
                        rfl) (by omega)
                  · refine zT.goto (tgt := 184) dX13_masters_111 (by decide) ?_
                    refine zT.iinc 4 dX13_masters_184 rfl (by decide) (zpre1 rfl (zcI _)) ?_
                    show zT G _ _ _ [zR b, zI bg, zI go, zI (1 * 2 ^ (2 * ((aK (A 0 1023) (A 2)) 5)).toNat - 1), zI (c + 1), zI s] _ _ _ _ _ _ _
                    refine zT.goto (tgt := 72) dX13_masters_187 (by decide) ?_
                    refine zT.loc (V' := [zR b, zI bg, zI go, zI (1 * 2 ^ (2 * ((aK (A 0 1023) (A 2)) 5)).toNat - 1), zI (c + 1), zU]) ?_ ⟨Or.inr rfl, Or.inr rfl, Or.inr rfl, Or.inr rfl, Or.inr rfl, Or.inl rfl, trivial⟩
                    exact ih72 _ _ _ _ _ _ _ (by exact hE) (by exact hZ) (by exact hP) (by exact hF) (by exact hO) (by exact hb1) (by exact hg1) (by exact hbg) (by exact hgo) (by exact hmn) (by exact hgv) (by exact hI) (by exact t0) (by omega) (by omega) (by
                        rw [← hT2, mRs_s c0 (by omega)]
                        first
                          | rw [mSt_u (Or.inl (show t < F c by omega))]
                          | rw [mSt_u (Or.inr (hs.symm.trans (by omega)))]) (by omega)
                · refine zT.goto (tgt := 184) dX13_masters_92 (by decide) ?_
                  refine zT.iinc 4 dX13_masters_184 rfl (by decide) (zpre1 rfl (zcI _)) ?_
                  show zT G _ _ _ [zR b, zI bg, zI go, zI (1 * 2 ^ (2 * ((aK (A 0 1023) (A 2)) 5)).toNat - 1), zI (c + 1), zU] _ _ _ _ _ _ _
                  refine zT.goto (tgt := 72) dX13_masters_187 (by decide) ?_
                  exact ih72 _ _ _ _ _ _ _ (by exact hE) (by exact hZ) (by exact hP) (by exact hF) (by exact hO) (by exact hb1) (by exact hg1) (by exact hbg) (by exact hgo) (by exact hmn) (by exact hgv) (by exact hI) (by exact t0) (by omega) (by omega) (by
                      rw [← hT2, mRs_s c0 (by omega)]
                      first
                        | rw [mSt_u (Or.inl (show t < F c by omega))]
                        | rw [mSt_u (Or.inr (hs.symm.trans (by omega)))]) (by omega)
          exact L72 _ _ _ _ _ _ _ _ (by exact hE0) (by exact hZ0) (by exact hP0) (by exact hF0) (by exact hO0) (by exact hb10) (by exact hg10) (by exact hbg0) (by exact hgo0) (by exact hmn0) (by exact hgv0) (by exact hI0) (by omega) (by first | assumption | exact zq_i _ | exact zand_i _ _ | exact zor_i _ _ | exact zN _ | omega) (by first | assumption | exact zq_i _ | exact zand_i _ _ | exact zor_i _ _ | exact zN _ | omega) (by exact hST.symm) (Nat.lt_succ_self _)
    exact L64 _ _ (uNil (uSnap (uLay (zup A 0 1000 0)))) (fun _ => 0) (fun _ => 0) _ _ _ 700 (by exact hE4) (by exact hI4) (by exact aPl.rf.nil) (by exact hF4) (by exact fun c hc => ⟨fun s _ _ _ => Int.le_refl _, fun q => absurd q (by decide)⟩) (by exact ⟨by omega, Int.pow_pos (by omega)⟩) (by exact ⟨by omega, Int.pow_pos (by omega)⟩) (by exact fun s _ _ => ⟨fun q => absurd q (zbit_0 _), fun q => absurd ⟨rfl, rfl⟩ q⟩) (by exact fun s _ _ => ⟨fun q => absurd q (zbit_0 _), fun q => absurd rfl q⟩) (by exact hmn4) (by exact zGV.nil) (by rw [hT9]; exact mIv.s0 hk rfl uNil_n) (by omega) (by rfl) (by exact hR9) (Nat.lt_succ_self _)
  · refine zT.iconst dX13_masters_16 ?_
    refine zT.iret dX13_masters_17 rfl ?_
    rw [eQ9]
    exact ⟨by rw [if_pos (by omega)], rfl, by rw [em2, em1]; exact zIn.rf.up0.lay, by rw [if_pos (by omega), em2, em1]; exact hA.up0.lay.w⟩

