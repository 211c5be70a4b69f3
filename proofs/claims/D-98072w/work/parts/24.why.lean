/-! PanSlices$Plan against plain functions (written by gen/m_plan3.py) -/
theorem C_X4_why {G : zG} {S : zS} {m : zMm} {p n : Int} {g : zGo} (hg : zPR S m p n g) (hv : zGV n g) {x : Int} {K : Int → Int} (hx : zKR S m x K) (hK : zKV K) {k : Int} (k0 : 0 ≤ k) (k1 : k < n) : zC G mX4_why 2 0 0 [zR p, zR x, zI k] S m (zDet (some (zI (aWhy K g k (g k 2)))) S m) zNX := by
  have hPl := hg.pl hv
  have hPl0 := hPl.1
  have hPl1 := hPl.2.1
  have hgn := hg.2.1
  have hKi := hx.ki hK
  have hKn := hKi.nu
  have hxf := hx.2.1
  have gek := hg.2.2 k (by omega) (by omega)
  have gvk := hv.2.2 k (by omega) (by omega)
  refine zC.of [zR p, zR x, zI k, zU, zU, zU] (by decide) rfl (zEn1 (zcR _) (zEn1 (zcR _) (zEn1 (zcI _) (zEn0 (by simp))))) rfl ?_
  refine zT.aload_n 0 dX4_why_0 rfl rfl ?_
  refine zT.getF dX4_why_1 fX4_9 rfl (zPlan.k hg.1) (j := 0) (by decide) rfl (zPlan.f300 hg.1) ?_
  refine zT.iload_n 2 dX4_why_4 rfl rfl ?_
  refine zT.iald dX4_why_5 (zPlan.a300 hg.1) (by first | assumption | exact zq_i _ | exact zand_i _ _ | exact zor_i _ _ | exact zxor_i _ _ | exact zN _ | omega) (by rw [(zPlan.n300 hg.1)]; first | assumption | exact zq_i _ | exact zand_i _ _ | exact zor_i _ _ | exact zxor_i _ _ | exact zN _ | omega) (fun z5 => ?_)
  refine zT.istore_n 3 dX4_why_6 rfl (by decide) (zpre1 rfl (zcI _)) ?_
  show zT G _ _ _ [zR p, zR x, zI k, zI (m (p + 1) k), zU, zU] _ _ _ _ _ _ _
  refine zT.iconst dX4_why_7 ?_
  refine zT.istore 4 dX4_why_8 (by decide) (zpre1 rfl (zcI _)) ?_
  show zT G _ _ _ [zR p, zR x, zI k, zI (m (p + 1) k), zI 0, zU] _ _ _ _ _ _ _
  have L10 : ∀ (N : Nat) (i : Int), (0 ≤ i) → (i ≤ k) → (∀ j, 0 ≤ j → j < i → ¬ aW1 g k (g k 2) j) → ((k - i).toNat) < N → zT G mX4_why 2 10 [zR p, zR x, zI k, zI (m (p + 1) k), zI i, zU] [] S m 0 0 (zDet (some (zI (aWhy K g k (g k 2)))) S m) zNX := by
    intro N
    induction N with
    | zero => intro i i0 i1 hw1 hN; exact absurd hN (Nat.not_lt_zero _)
    | succ N ih10 =>
      intro i i0 i1 hw1 hN
      refine zT.iload 4 dX4_why_10 rfl ?_
      refine zT.iload_n 2 dX4_why_12 rfl rfl ?_
      refine zT.ic_ge (tgt := 50) dX4_why_13 (by decide) (by first | assumption | exact zq_i _ | exact zand_i _ _ | exact zor_i _ _ | exact zxor_i _ _ | exact zN _ | omega) (by first | assumption | exact zq_i _ | exact zand_i _ _ | exact zor_i _ _ | exact zxor_i _ _ | exact zN _ | omega) (fun c13 => ?_) (fun c13 => ?_)
      · refine zT.iconst dX4_why_50 ?_
        refine zT.istore 4 dX4_why_51 (by decide) (zpre1 rfl (zcI _)) ?_
        show zT G _ _ _ [zR p, zR x, zI k, zI (m (p + 1) k), zI 0, zU] _ _ _ _ _ _ _
        have L53 : ∀ (N : Nat) (i : Int), (0 ≤ i) → (i ≤ k) → (∀ j, 0 ≤ j → j < i → ¬ aW2 g k (g k 2) j) → ((k - i).toNat) < N → zT G mX4_why 2 53 [zR p, zR x, zI k, zI (m (p + 1) k), zI i, zU] [] S m 0 0 (zDet (some (zI (aWhy K g k (g k 2)))) S m) zNX := by
          intro N
          induction N with
          | zero => intro i i0 i1 hw2 hN; exact absurd hN (Nat.not_lt_zero _)
          | succ N ih53 =>
            intro i i0 i1 hw2 hN
            refine zT.iload 4 dX4_why_53 rfl ?_
            refine zT.iload_n 2 dX4_why_55 rfl rfl ?_
            refine zT.ic_ge (tgt := 88) dX4_why_56 (by decide) (by first | assumption | exact zq_i _ | exact zand_i _ _ | exact zor_i _ _ | exact zxor_i _ _ | exact zN _ | omega) (by first | assumption | exact zq_i _ | exact zand_i _ _ | exact zor_i _ _ | exact zxor_i _ _ | exact zN _ | omega) (fun c56 => ?_) (fun c56 => ?_)
            · have hms := hx.2.2.1 (m (p + 1) k) (by omega) (by omega)
              have hkv := hK.2.1 (m (p + 1) k) (by omega) (by omega)
              have hcc : m (p + 2) k = 0 ∨ m (p + 2) k = 1 := by omega
              have hmin : m (x + 3) (2 * m (p + 1) k + m (p + 2) k) = K (8 + 3 * g k 0 + g k 1) := by
                rw [← gek.1, ← gek.2.1]
                rcases hcc with q | q
                · rw [q, Int.add_zero]
                  exact hms.1
                · rw [q]
                  exact hms.2.1
              have hhd := zhad_a (s := m (p + 1) k) (c := m (p + 2) k) (k := k) hg (by omega)
              have hhb := ahad_b (s := m (p + 1) k) (c := m (p + 2) k) (k := k) hv (by omega) (by omega)
              have hrw0 : ahad g (m (p + 1) k) (m (p + 2) k) k = ahad g (g k 0) (g k 1) k := by rw [gek.1, gek.2.1]
              have honce : m (x + 8) (m (p + 1) k) = K (8 + 3 * g k 0 + 2) := by rw [← gek.1]; exact hms.2.2
              refine zT.aload_n 0 dX4_why_88 rfl rfl ?_
              refine zT.iload_n 3 dX4_why_89 rfl rfl ?_
              refine zT.aload_n 0 dX4_why_90 rfl rfl ?_
              refine zT.getF dX4_why_91 fX4_15 rfl (zPlan.k hg.1) (j := 1) (by decide) rfl (zPlan.f301 hg.1) ?_
              refine zT.iload_n 2 dX4_why_94 rfl rfl ?_
              refine zT.iald dX4_why_95 (zPlan.a301 hg.1) (by first | assumption | exact zq_i _ | exact zand_i _ _ | exact zor_i _ _ | exact zxor_i _ _ | exact zN _ | omega) (by rw [(zPlan.n301 hg.1)]; first | assumption | exact zq_i _ | exact zand_i _ _ | exact zor_i _ _ | exact zxor_i _ _ | exact zN _ | omega) (fun z95 => ?_)
              refine zT.iload_n 2 dX4_why_96 rfl rfl ?_
              refine zT.callV (M' := mX4_had) (b := p) [zI (m (p + 1) k), zI (m (p + 2) k), zI k] [] dX4_why_97 kX4_51 rfl rfl (ci := 3) (r := (RX4, TX4, 6)) rfl (zPlan.k hg.1) (C_X4_had hg.1 (by first | assumption | exact zq_i _ | exact zand_i _ _ | exact zor_i _ _ | exact zxor_i _ _ | exact zN _ | omega) (by first | assumption | exact zq_i _ | exact zand_i _ _ | exact zor_i _ _ | exact zxor_i _ _ | exact zN _ | omega) (by first | assumption | exact zq_i _ | exact zand_i _ _ | exact zor_i _ _ | exact zxor_i _ _ | exact zN _ | omega) (by first | assumption | exact zq_i _ | exact zand_i _ _ | exact zor_i _ _ | exact zxor_i _ _ | exact zN _ | omega)) (by decide) (k' := 0) (n' := 0) (by omega) (by omega) (by decide) (zdk (v := some (zI (zhad m p (m (p + 1) k) (m (p + 2) k) k))) ?_) (fun _ _ _ _ h => h.elim)
              show zT G _ _ _ _ [zI (zhad m p (m (p + 1) k) (m (p + 2) k) k)] _ _ _ _ _ _
              refine zT.istore 4 dX4_why_100 (by decide) (zpre1 rfl (zcI _)) ?_
              show zT G _ _ _ [zR p, zR x, zI k, zI (m (p + 1) k), zI (zhad m p (m (p + 1) k) (m (p + 2) k) k), zU] _ _ _ _ _ _ _
              refine zT.iload 4 dX4_why_102 rfl ?_
              refine zT.aload_n 0 dX4_why_104 rfl rfl ?_
              refine zT.getF dX4_why_105 fX4_24 rfl (zPlan.k hg.1) (j := 4) (by decide) rfl (zPlan.f304 hg.1) ?_
              refine zT.iload_n 2 dX4_why_108 rfl rfl ?_
              refine zT.iald dX4_why_109 (zPlan.a304 hg.1) (by first | assumption | exact zq_i _ | exact zand_i _ _ | exact zor_i _ _ | exact zxor_i _ _ | exact zN _ | omega) (by rw [(zPlan.n304 hg.1)]; first | assumption | exact zq_i _ | exact zand_i _ _ | exact zor_i _ _ | exact zxor_i _ _ | exact zN _ | omega) (fun z109 => ?_)
              refine zT.iadd dX4_why_110 ?_
              refine zT.aload_n 1 dX4_why_111 rfl rfl ?_
              refine zT.getF dX4_why_112 fX4_55 rfl (zKit.k hx.1) (j := 2) (by decide) rfl (zKit.f202 hx.1) ?_
              refine zT.iconst dX4_why_115 ?_
              refine zT.iload_n 3 dX4_why_116 rfl rfl ?_
              refine zT.imul dX4_why_117 ?_
              refine zT.aload_n 0 dX4_why_118 rfl rfl ?_
              refine zT.getF dX4_why_119 fX4_15 rfl (zPlan.k hg.1) (j := 1) (by decide) rfl (zPlan.f301 hg.1) ?_
              refine zT.iload_n 2 dX4_why_122 rfl rfl ?_
              refine zT.iald dX4_why_123 (zPlan.a301 hg.1) (by first | assumption | exact zq_i _ | exact zand_i _ _ | exact zor_i _ _ | exact zxor_i _ _ | exact zN _ | omega) (by rw [(zPlan.n301 hg.1)]; first | assumption | exact zq_i _ | exact zand_i _ _ | exact zor_i _ _ | exact zxor_i _ _ | exact zN _ | omega) (fun z123 => ?_)
              refine zT.iadd dX4_why_124 ?_
              refine zT.iald dX4_why_125 (zKit.a202 hx.1) (by first | assumption | exact zq_i _ | exact zand_i _ _ | exact zor_i _ _ | exact zxor_i _ _ | exact zN _ | omega) (by rw [(zKit.n202 hx.1)]; first | assumption | exact zq_i _ | exact zand_i _ _ | exact zor_i _ _ | exact zxor_i _ _ | exact zN _ | omega) (fun z125 => ?_)
              refine zT.ic_le (tgt := 131) dX4_why_126 (by decide) (by first | assumption | exact zq_i _ | exact zand_i _ _ | exact zor_i _ _ | exact zxor_i _ _ | exact zN _ | omega) (by first | assumption | exact zq_i _ | exact zand_i _ _ | exact zor_i _ _ | exact zxor_i _ _ | exact zN _ | omega) (fun c126 => ?_) (fun c126 => ?_)
              · refine zT.aload_n 1 dX4_why_131 rfl rfl ?_
                refine zT.getF dX4_why_132 fX4_60 rfl (zKit.k hx.1) (j := 7) (by decide) rfl (zKit.f207 hx.1) ?_
                refine zT.iload_n 3 dX4_why_135 rfl rfl ?_
                refine zT.zald dX4_why_136 (zKit.a207 hx.1) (by first | assumption | exact zq_i _ | exact zand_i _ _ | exact zor_i _ _ | exact zxor_i _ _ | exact zN _ | omega) (by rw [(zKit.n207 hx.1)]; first | assumption | exact zq_i _ | exact zand_i _ _ | exact zor_i _ _ | exact zxor_i _ _ | exact zN _ | omega) (fun z136 => ?_)
                refine zT.if_eq (tgt := 147) dX4_why_137 (by decide) (by first | assumption | exact zq_i _ | exact zand_i _ _ | exact zor_i _ _ | exact zxor_i _ _ | exact zN _ | omega) (fun c137 => ?_) (fun c137 => ?_)
                · refine zT.iconst dX4_why_147 ?_
                  refine zT.istore 5 dX4_why_148 (by decide) (zpre1 rfl (zcI _)) ?_
                  show zT G _ _ _ [zR p, zR x, zI k, zI (m (p + 1) k), zI (zhad m p (m (p + 1) k) (m (p + 2) k) k), zI 0] _ _ _ _ _ _ _
                  have L150 : ∀ (N : Nat) (i : Int), (0 ≤ i) → (i ≤ k) → (∀ j, 0 ≤ j → j < i → ¬ aW5 K g k (g k 2) j) → ((k - i).toNat) < N → zT G mX4_why 2 150 [zR p, zR x, zI k, zI (m (p + 1) k), zI (zhad m p (m (p + 1) k) (m (p + 2) k) k), zI i] [] S m 0 0 (zDet (some (zI (aWhy K g k (g k 2)))) S m) zNX := by
                    intro N
                    induction N with
                    | zero => intro i i0 i1 hw5 hN; exact absurd hN (Nat.not_lt_zero _)
                    | succ N ih150 =>
                      intro i i0 i1 hw5 hN
                      refine zT.iload 5 dX4_why_150 rfl ?_
                      refine zT.iload_n 2 dX4_why_152 rfl rfl ?_
                      refine zT.ic_ge (tgt := 231) dX4_why_153 (by decide) (by first | assumption | exact zq_i _ | exact zand_i _ _ | exact zor_i _ _ | exact zxor_i _ _ | exact zN _ | omega) (by first | assumption | exact zq_i _ | exact zand_i _ _ | exact zor_i _ _ | exact zxor_i _ _ | exact zN _ | omega) (fun c153 => ?_) (fun c153 => ?_)
                      · refine zT.iconst dX4_why_231 ?_
                        refine zT.iret dX4_why_232 rfl ?_
                        exact ⟨by unfold aWhy; rw [zite_f (fun ⟨j, h1, h2, h3⟩ => hw1 j h1 (by omega) h3), zite_f (fun ⟨j, h1, h2, h3⟩ => hw2 j h1 (by omega) h3), zite_f (by omega), zite_f (by omega), zite_f (fun ⟨j, h1, h2, h3⟩ => hw5 j h1 (by omega) h3)], rfl, rfl⟩
                      · have gei := hg.2.2 i (by omega) (by omega)
                        have gvi := hv.2.2 i (by omega) (by omega)
                        refine zT.aload_n 0 dX4_why_156 rfl rfl ?_
                        refine zT.getF dX4_why_157 fX4_9 rfl (zPlan.k hg.1) (j := 0) (by decide) rfl (zPlan.f300 hg.1) ?_
                        refine zT.iload 5 dX4_why_160 rfl ?_
                        refine zT.iald dX4_why_162 (zPlan.a300 hg.1) (by first | assumption | exact zq_i _ | exact zand_i _ _ | exact zor_i _ _ | exact zxor_i _ _ | exact zN _ | omega) (by rw [(zPlan.n300 hg.1)]; first | assumption | exact zq_i _ | exact zand_i _ _ | exact zor_i _ _ | exact zxor_i _ _ | exact zN _ | omega) (fun z162 => ?_)
                        refine zT.iload_n 3 dX4_why_163 rfl rfl ?_
                        refine zT.ic_ne (tgt := 225) dX4_why_164 (by decide) (by first | assumption | exact zq_i _ | exact zand_i _ _ | exact zor_i _ _ | exact zxor_i _ _ | exact zN _ | omega) (by first | assumption | exact zq_i _ | exact zand_i _ _ | exact zor_i _ _ | exact zxor_i _ _ | exact zN _ | omega) (fun c164 => ?_) (fun c164 => ?_)
                        · refine zT.iinc 5 dX4_why_225 rfl (by decide) (zpre1 rfl (zcI _)) ?_
                          show zT G _ _ _ [zR p, zR x, zI k, zI (m (p + 1) k), zI (zhad m p (m (p + 1) k) (m (p + 2) k) k), zI (i + 1)] _ _ _ _ _ _ _
                          refine zT.goto (tgt := 150) dX4_why_228 (by decide) ?_
                          exact ih150 _ (by first | assumption | exact zq_i _ | exact zand_i _ _ | exact zor_i _ _ | exact zxor_i _ _ | exact zN _ | omega) (by first | assumption | exact zq_i _ | exact zand_i _ _ | exact zor_i _ _ | exact zxor_i _ _ | exact zN _ | omega) (by exact zal_s hw5 (by unfold aW5; omega)) (by omega)
                        · refine zT.aload_n 0 dX4_why_167 rfl rfl ?_
                          refine zT.getF dX4_why_168 fX4_15 rfl (zPlan.k hg.1) (j := 1) (by decide) rfl (zPlan.f301 hg.1) ?_
                          refine zT.iload 5 dX4_why_171 rfl ?_
                          refine zT.iald dX4_why_173 (zPlan.a301 hg.1) (by first | assumption | exact zq_i _ | exact zand_i _ _ | exact zor_i _ _ | exact zxor_i _ _ | exact zN _ | omega) (by rw [(zPlan.n301 hg.1)]; first | assumption | exact zq_i _ | exact zand_i _ _ | exact zor_i _ _ | exact zxor_i _ _ | exact zN _ | omega) (fun z173 => ?_)
                          refine zT.aload_n 0 dX4_why_174 rfl rfl ?_
                          refine zT.getF dX4_why_175 fX4_15 rfl (zPlan.k hg.1) (j := 1) (by decide) rfl (zPlan.f301 hg.1) ?_
                          refine zT.iload_n 2 dX4_why_178 rfl rfl ?_
                          refine zT.iald dX4_why_179 (zPlan.a301 hg.1) (by first | assumption | exact zq_i _ | exact zand_i _ _ | exact zor_i _ _ | exact zxor_i _ _ | exact zN _ | omega) (by rw [(zPlan.n301 hg.1)]; first | assumption | exact zq_i _ | exact zand_i _ _ | exact zor_i _ _ | exact zxor_i _ _ | exact zN _ | omega) (fun z179 => ?_)
                          refine zT.ic_eq (tgt := 225) dX4_why_180 (by decide) (by first | assumption | exact zq_i _ | exact zand_i _ _ | exact zor_i _ _ | exact zxor_i _ _ | exact zN _ | omega) (by first | assumption | exact zq_i _ | exact zand_i _ _ | exact zor_i _ _ | exact zxor_i _ _ | exact zN _ | omega) (fun c180 => ?_) (fun c180 => ?_)
                          · refine zT.iinc 5 dX4_why_225 rfl (by decide) (zpre1 rfl (zcI _)) ?_
                            show zT G _ _ _ [zR p, zR x, zI k, zI (m (p + 1) k), zI (zhad m p (m (p + 1) k) (m (p + 2) k) k), zI (i + 1)] _ _ _ _ _ _ _
                            refine zT.goto (tgt := 150) dX4_why_228 (by decide) ?_
                            exact ih150 _ (by first | assumption | exact zq_i _ | exact zand_i _ _ | exact zor_i _ _ | exact zxor_i _ _ | exact zN _ | omega) (by first | assumption | exact zq_i _ | exact zand_i _ _ | exact zor_i _ _ | exact zxor_i _ _ | exact zN _ | omega) (by exact zal_s hw5 (by unfold aW5; omega)) (by omega)
                          · refine zT.aload_n 0 dX4_why_183 rfl rfl ?_
                            refine zT.getF dX4_why_184 fX4_18 rfl (zPlan.k hg.1) (j := 2) (by decide) rfl (zPlan.f302 hg.1) ?_
                            refine zT.iload 5 dX4_why_187 rfl ?_
                            refine zT.iald dX4_why_189 (zPlan.a302 hg.1) (by first | assumption | exact zq_i _ | exact zand_i _ _ | exact zor_i _ _ | exact zxor_i _ _ | exact zN _ | omega) (by rw [(zPlan.n302 hg.1)]; first | assumption | exact zq_i _ | exact zand_i _ _ | exact zor_i _ _ | exact zxor_i _ _ | exact zN _ | omega) (fun z189 => ?_)
                            refine zT.aload_n 0 dX4_why_190 rfl rfl ?_
                            refine zT.iload_n 2 dX4_why_191 rfl rfl ?_
                            refine zT.callV (M' := mX4_end) (b := p) [zI k] [zI (m (p + 3) i)] dX4_why_192 kX4_37 rfl rfl (ci := 3) (r := (RX4, TX4, 6)) rfl (zPlan.k hg.1) (C_X4_end hg.1 (by first | assumption | exact zq_i _ | exact zand_i _ _ | exact zor_i _ _ | exact zxor_i _ _ | exact zN _ | omega) (by first | assumption | exact zq_i _ | exact zand_i _ _ | exact zor_i _ _ | exact zxor_i _ _ | exact zN _ | omega)) (by decide) (k' := 0) (n' := 0) (by omega) (by omega) (by simp only [List.map, zcI, zcJ, zcR, List.sum_cons, List.sum_nil]; decide) (zdk (v := some (zI (m (p + 3) k + m (p + 5) k))) ?_) (fun _ _ _ _ h => h.elim)
                            show zT G _ _ _ _ [zI (m (p + 3) k + m (p + 5) k), zI (m (p + 3) i)] _ _ _ _ _ _
                            refine zT.isub dX4_why_195 ?_
                            refine zT.aload_n 1 dX4_why_196 rfl rfl ?_
                            refine zT.getI dX4_why_197 fX4_64 rfl (zKit.k hx.1) (j := 12) (by decide) rfl (fun z197 => ?_)
                            refine zT.ic_ge (tgt := 225) dX4_why_200 (by decide) (by first | assumption | exact zq_i _ | exact zand_i _ _ | exact zor_i _ _ | exact zxor_i _ _ | exact zN _ | omega) (by first | assumption | exact zq_i _ | exact zand_i _ _ | exact zor_i _ _ | exact zxor_i _ _ | exact zN _ | omega) (fun c200 => ?_) (fun c200 => ?_)
                            · refine zT.iinc 5 dX4_why_225 rfl (by decide) (zpre1 rfl (zcI _)) ?_
                              show zT G _ _ _ [zR p, zR x, zI k, zI (m (p + 1) k), zI (zhad m p (m (p + 1) k) (m (p + 2) k) k), zI (i + 1)] _ _ _ _ _ _ _
                              refine zT.goto (tgt := 150) dX4_why_228 (by decide) ?_
                              exact ih150 _ (by first | assumption | exact zq_i _ | exact zand_i _ _ | exact zor_i _ _ | exact zxor_i _ _ | exact zN _ | omega) (by first | assumption | exact zq_i _ | exact zand_i _ _ | exact zor_i _ _ | exact zxor_i _ _ | exact zN _ | omega) (by exact zal_s hw5 (by unfold aW5; omega)) (by omega)
                            · refine zT.aload_n 0 dX4_why_203 rfl rfl ?_
                              refine zT.getF dX4_why_204 fX4_18 rfl (zPlan.k hg.1) (j := 2) (by decide) rfl (zPlan.f302 hg.1) ?_
                              refine zT.iload_n 2 dX4_why_207 rfl rfl ?_
                              refine zT.iald dX4_why_208 (zPlan.a302 hg.1) (by first | assumption | exact zq_i _ | exact zand_i _ _ | exact zor_i _ _ | exact zxor_i _ _ | exact zN _ | omega) (by rw [(zPlan.n302 hg.1)]; first | assumption | exact zq_i _ | exact zand_i _ _ | exact zor_i _ _ | exact zxor_i _ _ | exact zN _ | omega) (fun z208 => ?_)
                              refine zT.aload_n 0 dX4_why_209 rfl rfl ?_
                              refine zT.iload 5 dX4_why_210 rfl ?_
                              refine zT.callV (M' := mX4_end) (b := p) [zI i] [zI (m (p + 3) k)] dX4_why_212 kX4_37 rfl rfl (ci := 3) (r := (RX4, TX4, 6)) rfl (zPlan.k hg.1) (C_X4_end hg.1 (by first | assumption | exact zq_i _ | exact zand_i _ _ | exact zor_i _ _ | exact zxor_i _ _ | exact zN _ | omega) (by first | assumption | exact zq_i _ | exact zand_i _ _ | exact zor_i _ _ | exact zxor_i _ _ | exact zN _ | omega)) (by decide) (k' := 0) (n' := 0) (by omega) (by omega) (by simp only [List.map, zcI, zcJ, zcR, List.sum_cons, List.sum_nil]; decide) (zdk (v := some (zI (m (p + 3) i + m (p + 5) i))) ?_) (fun _ _ _ _ h => h.elim)
                              show zT G _ _ _ _ [zI (m (p + 3) i + m (p + 5) i), zI (m (p + 3) k)] _ _ _ _ _ _
                              refine zT.isub dX4_why_215 ?_
                              refine zT.aload_n 1 dX4_why_216 rfl rfl ?_
                              refine zT.getI dX4_why_217 fX4_64 rfl (zKit.k hx.1) (j := 12) (by decide) rfl (fun z217 => ?_)
                              refine zT.ic_ge (tgt := 225) dX4_why_220 (by decide) (by first | assumption | exact zq_i _ | exact zand_i _ _ | exact zor_i _ _ | exact zxor_i _ _ | exact zN _ | omega) (by first | assumption | exact zq_i _ | exact zand_i _ _ | exact zor_i _ _ | exact zxor_i _ _ | exact zN _ | omega) (fun c220 => ?_) (fun c220 => ?_)
                              · refine zT.iinc 5 dX4_why_225 rfl (by decide) (zpre1 rfl (zcI _)) ?_
                                show zT G _ _ _ [zR p, zR x, zI k, zI (m (p + 1) k), zI (zhad m p (m (p + 1) k) (m (p + 2) k) k), zI (i + 1)] _ _ _ _ _ _ _
                                refine zT.goto (tgt := 150) dX4_why_228 (by decide) ?_
                                exact ih150 _ (by first | assumption | exact zq_i _ | exact zand_i _ _ | exact zor_i _ _ | exact zxor_i _ _ | exact zN _ | omega) (by first | assumption | exact zq_i _ | exact zand_i _ _ | exact zor_i _ _ | exact zxor_i _ _ | exact zN _ | omega) (by exact zal_s hw5 (by unfold aW5; omega)) (by omega)
                              · refine zT.iconst dX4_why_223 ?_
                                refine zT.iret dX4_why_224 rfl ?_
                                exact ⟨by unfold aWhy; rw [zite_f (fun ⟨j, h1, h2, h3⟩ => hw1 j h1 (by omega) h3), zite_f (fun ⟨j, h1, h2, h3⟩ => hw2 j h1 (by omega) h3), zite_f (by omega), zite_f (by omega), zite_t ⟨i, by omega, by omega, by unfold aW5; omega⟩], rfl, rfl⟩
                  exact L150 _ _ (by first | assumption | exact zq_i _ | exact zand_i _ _ | exact zor_i _ _ | exact zxor_i _ _ | exact zN _ | omega) (by first | assumption | exact zq_i _ | exact zand_i _ _ | exact zor_i _ _ | exact zxor_i _ _ | exact zN _ | omega) (by exact zal_0) (Nat.lt_succ_self _)
                · refine zT.iload 4 dX4_why_140 rfl ?_
                  refine zT.if_le (tgt := 147) dX4_why_142 (by decide) (by first | assumption | exact zq_i _ | exact zand_i _ _ | exact zor_i _ _ | exact zxor_i _ _ | exact zN _ | omega) (fun c142 => ?_) (fun c142 => ?_)
                  · refine zT.iconst dX4_why_147 ?_
                    refine zT.istore 5 dX4_why_148 (by decide) (zpre1 rfl (zcI _)) ?_
                    show zT G _ _ _ [zR p, zR x, zI k, zI (m (p + 1) k), zI (zhad m p (m (p + 1) k) (m (p + 2) k) k), zI 0] _ _ _ _ _ _ _
                    have L150 : ∀ (N : Nat) (i : Int), (0 ≤ i) → (i ≤ k) → (∀ j, 0 ≤ j → j < i → ¬ aW5 K g k (g k 2) j) → ((k - i).toNat) < N → zT G mX4_why 2 150 [zR p, zR x, zI k, zI (m (p + 1) k), zI (zhad m p (m (p + 1) k) (m (p + 2) k) k), zI i] [] S m 0 0 (zDet (some (zI (aWhy K g k (g k 2)))) S m) zNX := by
                      intro N
                      induction N with
                      | zero => intro i i0 i1 hw5 hN; exact absurd hN (Nat.not_lt_zero _)
                      | succ N ih150 =>
                        intro i i0 i1 hw5 hN
                        refine zT.iload 5 dX4_why_150 rfl ?_
                        refine zT.iload_n 2 dX4_why_152 rfl rfl ?_
                        refine zT.ic_ge (tgt := 231) dX4_why_153 (by decide) (by first | assumption | exact zq_i _ | exact zand_i _ _ | exact zor_i _ _ | exact zxor_i _ _ | exact zN _ | omega) (by first | assumption | exact zq_i _ | exact zand_i _ _ | exact zor_i _ _ | exact zxor_i _ _ | exact zN _ | omega) (fun c153 => ?_) (fun c153 => ?_)
                        · refine zT.iconst dX4_why_231 ?_
                          refine zT.iret dX4_why_232 rfl ?_
                          exact ⟨by unfold aWhy; rw [zite_f (fun ⟨j, h1, h2, h3⟩ => hw1 j h1 (by omega) h3), zite_f (fun ⟨j, h1, h2, h3⟩ => hw2 j h1 (by omega) h3), zite_f (by omega), zite_f (by omega), zite_f (fun ⟨j, h1, h2, h3⟩ => hw5 j h1 (by omega) h3)], rfl, rfl⟩
                        · have gei := hg.2.2 i (by omega) (by omega)
                          have gvi := hv.2.2 i (by omega) (by omega)
                          refine zT.aload_n 0 dX4_why_156 rfl rfl ?_
                          refine zT.getF dX4_why_157 fX4_9 rfl (zPlan.k hg.1) (j := 0) (by decide) rfl (zPlan.f300 hg.1) ?_
                          refine zT.iload 5 dX4_why_160 rfl ?_
                          refine zT.iald dX4_why_162 (zPlan.a300 hg.1) (by first | assumption | exact zq_i _ | exact zand_i _ _ | exact zor_i _ _ | exact zxor_i _ _ | exact zN _ | omega) (by rw [(zPlan.n300 hg.1)]; first | assumption | exact zq_i _ | exact zand_i _ _ | exact zor_i _ _ | exact zxor_i _ _ | exact zN _ | omega) (fun z162 => ?_)
                          refine zT.iload_n 3 dX4_why_163 rfl rfl ?_
                          refine zT.ic_ne (tgt := 225) dX4_why_164 (by decide) (by first | assumption | exact zq_i _ | exact zand_i _ _ | exact zor_i _ _ | exact zxor_i _ _ | exact zN _ | omega) (by first | assumption | exact zq_i _ | exact zand_i _ _ | exact zor_i _ _ | exact zxor_i _ _ | exact zN _ | omega) (fun c164 => ?_) (fun c164 => ?_)
                          · refine zT.iinc 5 dX4_why_225 rfl (by decide) (zpre1 rfl (zcI _)) ?_
                            show zT G _ _ _ [zR p, zR x, zI k, zI (m (p + 1) k), zI (zhad m p (m (p + 1) k) (m (p + 2) k) k), zI (i + 1)] _ _ _ _ _ _ _
                            refine zT.goto (tgt := 150) dX4_why_228 (by decide) ?_
                            exact ih150 _ (by first | assumption | exact zq_i _ | exact zand_i _ _ | exact zor_i _ _ | exact zxor_i _ _ | exact zN _ | omega) (by first | assumption | exact zq_i _ | exact zand_i _ _ | exact zor_i _ _ | exact zxor_i _ _ | exact zN _ | omega) (by exact zal_s hw5 (by unfold aW5; omega)) (by omega)
                          · refine zT.aload_n 0 dX4_why_167 rfl rfl ?_
                            refine zT.getF dX4_why_168 fX4_15 rfl (zPlan.k hg.1) (j := 1) (by decide) rfl (zPlan.f301 hg.1) ?_
                            refine zT.iload 5 dX4_why_171 rfl ?_
                            refine zT.iald dX4_why_173 (zPlan.a301 hg.1) (by first | assumption | exact zq_i _ | exact zand_i _ _ | exact zor_i _ _ | exact zxor_i _ _ | exact zN _ | omega) (by rw [(zPlan.n301 hg.1)]; first | assumption | exact zq_i _ | exact zand_i _ _ | exact zor_i _ _ | exact zxor_i _ _ | exact zN _ | omega) (fun z173 => ?_)
                            refine zT.aload_n 0 dX4_why_174 rfl rfl ?_
                            refine zT.getF dX4_why_175 fX4_15 rfl (zPlan.k hg.1) (j := 1) (by decide) rfl (zPlan.f301 hg.1) ?_
                            refine zT.iload_n 2 dX4_why_178 rfl rfl ?_
                            refine zT.iald dX4_why_179 (zPlan.a301 hg.1) (by first | assumption | exact zq_i _ | exact zand_i _ _ | exact zor_i _ _ | exact zxor_i _ _ | exact zN _ | omega) (by rw [(zPlan.n301 hg.1)]; first | assumption | exact zq_i _ | exact zand_i _ _ | exact zor_i _ _ | exact zxor_i _ _ | exact zN _ | omega) (fun z179 => ?_)
                            refine zT.ic_eq (tgt := 225) dX4_why_180 (by decide) (by first | assumption | exact zq_i _ | exact zand_i _ _ | exact zor_i _ _ | exact zxor_i _ _ | exact zN _ | omega) (by first | assumption | exact zq_i _ | exact zand_i _ _ | exact zor_i _ _ | exact zxor_i _ _ | exact zN _ | omega) (fun c180 => ?_) (fun c180 => ?_)
                            · refine zT.iinc 5 dX4_why_225 rfl (by decide) (zpre1 rfl (zcI _)) ?_
                              show zT G _ _ _ [zR p, zR x, zI k, zI (m (p + 1) k), zI (zhad m p (m (p + 1) k) (m (p + 2) k) k), zI (i + 1)] _ _ _ _ _ _ _
                              refine zT.goto (tgt := 150) dX4_why_228 (by decide) ?_
                              exact ih150 _ (by first | assumption | exact zq_i _ | exact zand_i _ _ | exact zor_i _ _ | exact zxor_i _ _ | exact zN _ | omega) (by first | assumption | exact zq_i _ | exact zand_i _ _ | exact zor_i _ _ | exact zxor_i _ _ | exact zN _ | omega) (by exact zal_s hw5 (by unfold aW5; omega)) (by omega)
                            · refine zT.aload_n 0 dX4_why_183 rfl rfl ?_
                              refine zT.getF dX4_why_184 fX4_18 rfl (zPlan.k hg.1) (j := 2) (by decide) rfl (zPlan.f302 hg.1) ?_
                              refine zT.iload 5 dX4_why_187 rfl ?_
                              refine zT.iald dX4_why_189 (zPlan.a302 hg.1) (by first | assumption | exact zq_i _ | exact zand_i _ _ | exact zor_i _ _ | exact zxor_i _ _ | exact zN _ | omega) (by rw [(zPlan.n302 hg.1)]; first | assumption | exact zq_i _ | exact zand_i _ _ | exact zor_i _ _ | exact zxor_i _ _ | exact zN _ | omega) (fun z189 => ?_)
                              refine zT.aload_n 0 dX4_why_190 rfl rfl ?_
                              refine zT.iload_n 2 dX4_why_191 rfl rfl ?_
                              refine zT.callV (M' := mX4_end) (b := p) [zI k] [zI (m (p + 3) i)] dX4_why_192 kX4_37 rfl rfl (ci := 3) (r := (RX4, TX4, 6)) rfl (zPlan.k hg.1) (C_X4_end hg.1 (by first | assumption | exact zq_i _ | exact zand_i _ _ | exact zor_i _ _ | exact zxor_i _ _ | exact zN _ | omega) (by first | assumption | exact zq_i _ | exact zand_i _ _ | exact zor_i _ _ | exact zxor_i _ _ | exact zN _ | omega)) (by decide) (k' := 0) (n' := 0) (by omega) (by omega) (by simp only [List.map, zcI, zcJ, zcR, List.sum_cons, List.sum_nil]; decide) (zdk (v := some (zI (m (p + 3) k + m (p + 5) k))) ?_) (fun _ _ _ _ h => h.elim)
                              show zT G _ _ _ _ [zI (m (p + 3) k + m (p + 5) k), zI (m (p + 3) i)] _ _ _ _ _ _
                              refine zT.isub dX4_why_195 ?_
                              refine zT.aload_n 1 dX4_why_196 rfl rfl ?_
                              refine zT.getI dX4_why_197 fX4_64 rfl (zKit.k hx.1) (j := 12) (by decide) rfl (fun z197 => ?_)
                              refine zT.ic_ge (tgt := 225) dX4_why_200 (by decide) (by first | assumption | exact zq_i _ | exact zand_i _ _ | exact zor_i _ _ | exact zxor_i _ _ | exact zN _ | omega) (by first | assumption | exact zq_i _ | exact zand_i _ _ | exact zor_i _ _ | exact zxor_i _ _ | exact zN _ | omega) (fun c200 => ?_) (fun c200 => ?_)
                              · refine zT.iinc 5 dX4_why_225 rfl (by decide) (zpre1 rfl (zcI _)) ?_
                                show zT G _ _ _ [zR p, zR x, zI k, zI (m (p + 1) k), zI (zhad m p (m (p + 1) k) (m (p + 2) k) k), zI (i + 1)] _ _ _ _ _ _ _
                                refine zT.goto (tgt := 150) dX4_why_228 (by decide) ?_
                                exact ih150 _ (by first | assumption | exact zq_i _ | exact zand_i _ _ | exact zor_i _ _ | exact zxor_i _ _ | exact zN _ | omega) (by first | assumption | exact zq_i _ | exact zand_i _ _ | exact zor_i _ _ | exact zxor_i _ _ | exact zN _ | omega) (by exact zal_s hw5 (by unfold aW5; omega)) (by omega)
                              · refine zT.aload_n 0 dX4_why_203 rfl rfl ?_
                                refine zT.getF dX4_why_204 fX4_18 rfl (zPlan.k hg.1) (j := 2) (by decide) rfl (zPlan.f302 hg.1) ?_
                                refine zT.iload_n 2 dX4_why_207 rfl rfl ?_
                                refine zT.iald dX4_why_208 (zPlan.a302 hg.1) (by first | assumption | exact zq_i _ | exact zand_i _ _ | exact zor_i _ _ | exact zxor_i _ _ | exact zN _ | omega) (by rw [(zPlan.n302 hg.1)]; first | assumption | exact zq_i _ | exact zand_i _ _ | exact zor_i _ _ | exact zxor_i _ _ | exact zN _ | omega) (fun z208 => ?_)
                                refine zT.aload_n 0 dX4_why_209 rfl rfl ?_
                                refine zT.iload 5 dX4_why_210 rfl ?_
                                refine zT.callV (M' := mX4_end) (b := p) [zI i] [zI (m (p + 3) k)] dX4_why_212 kX4_37 rfl rfl (ci := 3) (r := (RX4, TX4, 6)) rfl (zPlan.k hg.1) (C_X4_end hg.1 (by first | assumption | exact zq_i _ | exact zand_i _ _ | exact zor_i _ _ | exact zxor_i _ _ | exact zN _ | omega) (by first | assumption | exact zq_i _ | exact zand_i _ _ | exact zor_i _ _ | exact zxor_i _ _ | exact zN _ | omega)) (by decide) (k' := 0) (n' := 0) (by omega) (by omega) (by simp only [List.map, zcI, zcJ, zcR, List.sum_cons, List.sum_nil]; decide) (zdk (v := some (zI (m (p + 3) i + m (p + 5) i))) ?_) (fun _ _ _ _ h => h.elim)
                                show zT G _ _ _ _ [zI (m (p + 3) i + m (p + 5) i), zI (m (p + 3) k)] _ _ _ _ _ _
                                refine zT.isub dX4_why_215 ?_
                                refine zT.aload_n 1 dX4_why_216 rfl rfl ?_
                                refine zT.getI dX4_why_217 fX4_64 rfl (zKit.k hx.1) (j := 12) (by decide) rfl (fun z217 => ?_)
                                refine zT.ic_ge (tgt := 225) dX4_why_220 (by decide) (by first | assumption | exact zq_i _ | exact zand_i _ _ | exact zor_i _ _ | exact zxor_i _ _ | exact zN _ | omega) (by first | assumption | exact zq_i _ | exact zand_i _ _ | exact zor_i _ _ | exact zxor_i _ _ | exact zN _ | omega) (fun c220 => ?_) (fun c220 => ?_)
                                · refine zT.iinc 5 dX4_why_225 rfl (by decide) (zpre1 rfl (zcI _)) ?_
                                  show zT G _ _ _ [zR p, zR x, zI k, zI (m (p + 1) k), zI (zhad m p (m (p + 1) k) (m (p + 2) k) k), zI (i + 1)] _ _ _ _ _ _ _
                                  refine zT.goto (tgt := 150) dX4_why_228 (by decide) ?_
                                  exact ih150 _ (by first | assumption | exact zq_i _ | exact zand_i _ _ | exact zor_i _ _ | exact zxor_i _ _ | exact zN _ | omega) (by first | assumption | exact zq_i _ | exact zand_i _ _ | exact zor_i _ _ | exact zxor_i _ _ | exact zN _ | omega) (by exact zal_s hw5 (by unfold aW5; omega)) (by omega)
                                · refine zT.iconst dX4_why_223 ?_
                                  refine zT.iret dX4_why_224 rfl ?_
                                  exact ⟨by unfold aWhy; rw [zite_f (fun ⟨j, h1, h2, h3⟩ => hw1 j h1 (by omega) h3), zite_f (fun ⟨j, h1, h2, h3⟩ => hw2 j h1 (by omega) h3), zite_f (by omega), zite_f (by omega), zite_t ⟨i, by omega, by omega, by unfold aW5; omega⟩], rfl, rfl⟩
                    exact L150 _ _ (by first | assumption | exact zq_i _ | exact zand_i _ _ | exact zor_i _ _ | exact zxor_i _ _ | exact zN _ | omega) (by first | assumption | exact zq_i _ | exact zand_i _ _ | exact zor_i _ _ | exact zxor_i _ _ | exact zN _ | omega) (by exact zal_0) (Nat.lt_succ_self _)
                  · refine zT.iconst dX4_why_145 ?_
                    refine zT.iret dX4_why_146 rfl ?_
                    exact ⟨by unfold aWhy; rw [zite_f (fun ⟨j, h1, h2, h3⟩ => hw1 j h1 (by omega) h3), zite_f (fun ⟨j, h1, h2, h3⟩ => hw2 j h1 (by omega) h3), zite_f (by omega), zite_t (by omega)], rfl, rfl⟩
              · refine zT.iconst dX4_why_129 ?_
                refine zT.iret dX4_why_130 rfl ?_
                exact ⟨by unfold aWhy; rw [zite_f (fun ⟨j, h1, h2, h3⟩ => hw1 j h1 (by omega) h3), zite_f (fun ⟨j, h1, h2, h3⟩ => hw2 j h1 (by omega) h3), zite_t (by omega)], rfl, rfl⟩
            · have gei := hg.2.2 i (by omega) (by omega)
              have gvi := hv.2.2 i (by omega) (by omega)
              refine zT.aload_n 0 dX4_why_59 rfl rfl ?_
              refine zT.getF dX4_why_60 fX4_9 rfl (zPlan.k hg.1) (j := 0) (by decide) rfl (zPlan.f300 hg.1) ?_
              refine zT.iload 4 dX4_why_63 rfl ?_
              refine zT.iald dX4_why_65 (zPlan.a300 hg.1) (by first | assumption | exact zq_i _ | exact zand_i _ _ | exact zor_i _ _ | exact zxor_i _ _ | exact zN _ | omega) (by rw [(zPlan.n300 hg.1)]; first | assumption | exact zq_i _ | exact zand_i _ _ | exact zor_i _ _ | exact zxor_i _ _ | exact zN _ | omega) (fun z65 => ?_)
              refine zT.iload_n 3 dX4_why_66 rfl rfl ?_
              refine zT.ic_ne (tgt := 82) dX4_why_67 (by decide) (by first | assumption | exact zq_i _ | exact zand_i _ _ | exact zor_i _ _ | exact zxor_i _ _ | exact zN _ | omega) (by first | assumption | exact zq_i _ | exact zand_i _ _ | exact zor_i _ _ | exact zxor_i _ _ | exact zN _ | omega) (fun c67 => ?_) (fun c67 => ?_)
              · refine zT.iinc 4 dX4_why_82 rfl (by decide) (zpre1 rfl (zcI _)) ?_
                show zT G _ _ _ [zR p, zR x, zI k, zI (m (p + 1) k), zI (i + 1), zU] _ _ _ _ _ _ _
                refine zT.goto (tgt := 53) dX4_why_85 (by decide) ?_
                exact ih53 _ (by first | assumption | exact zq_i _ | exact zand_i _ _ | exact zor_i _ _ | exact zxor_i _ _ | exact zN _ | omega) (by first | assumption | exact zq_i _ | exact zand_i _ _ | exact zor_i _ _ | exact zxor_i _ _ | exact zN _ | omega) (by exact zal_s hw2 (by unfold aW2; omega)) (by omega)
              · refine zT.aload_n 0 dX4_why_70 rfl rfl ?_
                refine zT.iload 4 dX4_why_71 rfl ?_
                refine zT.iload_n 2 dX4_why_73 rfl rfl ?_
                refine zT.callV (M' := mX4_areMet) (b := p) [zI i, zI k] [] dX4_why_74 kX4_47 rfl rfl (ci := 3) (r := (RX4, TX4, 6)) rfl (zPlan.k hg.1) (C_X4_areMet hg.1 hPl (by first | assumption | exact zq_i _ | exact zand_i _ _ | exact zor_i _ _ | exact zxor_i _ _ | exact zN _ | omega) (by first | assumption | exact zq_i _ | exact zand_i _ _ | exact zor_i _ _ | exact zxor_i _ _ | exact zN _ | omega) (by first | assumption | exact zq_i _ | exact zand_i _ _ | exact zor_i _ _ | exact zxor_i _ _ | exact zN _ | omega) (by first | assumption | exact zq_i _ | exact zand_i _ _ | exact zor_i _ _ | exact zxor_i _ _ | exact zN _ | omega)) (by decide) (k' := 0) (n' := 0) (by omega) (by omega) (by decide) (zdk (v := some (zI (zq (m (p + 3) i < m (p + 3) k + m (p + 5) k ∧ m (p + 3) k < m (p + 3) i + m (p + 5) i)))) ?_) (fun _ _ _ _ h => h.elim)
                show zT G _ _ _ _ [zI (zq (m (p + 3) i < m (p + 3) k + m (p + 5) k ∧ m (p + 3) k < m (p + 3) i + m (p + 5) i))] _ _ _ _ _ _
                refine zT.if_eqB (tgt := 82) dX4_why_77 (by decide) (fun c77 => ?_) (fun c77 => ?_)
                · refine zT.iinc 4 dX4_why_82 rfl (by decide) (zpre1 rfl (zcI _)) ?_
                  show zT G _ _ _ [zR p, zR x, zI k, zI (m (p + 1) k), zI (i + 1), zU] _ _ _ _ _ _ _
                  refine zT.goto (tgt := 53) dX4_why_85 (by decide) ?_
                  exact ih53 _ (by first | assumption | exact zq_i _ | exact zand_i _ _ | exact zor_i _ _ | exact zxor_i _ _ | exact zN _ | omega) (by first | assumption | exact zq_i _ | exact zand_i _ _ | exact zor_i _ _ | exact zxor_i _ _ | exact zN _ | omega) (by exact zal_s hw2 (by unfold aW2; omega)) (by omega)
                · refine zT.iconst dX4_why_80 ?_
                  refine zT.iret dX4_why_81 rfl ?_
                  exact ⟨by unfold aWhy; rw [zite_f (fun ⟨j, h1, h2, h3⟩ => hw1 j h1 (by omega) h3), zite_t ⟨i, by omega, by omega, by unfold aW2; omega⟩], rfl, rfl⟩
        exact L53 _ _ (by first | assumption | exact zq_i _ | exact zand_i _ _ | exact zor_i _ _ | exact zxor_i _ _ | exact zN _ | omega) (by first | assumption | exact zq_i _ | exact zand_i _ _ | exact zor_i _ _ | exact zxor_i _ _ | exact zN _ | omega) (by exact zal_0) (Nat.lt_succ_self _)
      · have gei := hg.2.2 i (by omega) (by omega)
        have gvi := hv.2.2 i (by omega) (by omega)
        refine zT.aload_n 0 dX4_why_16 rfl rfl ?_
        refine zT.getF dX4_why_17 fX4_21 rfl (zPlan.k hg.1) (j := 3) (by decide) rfl (zPlan.f303 hg.1) ?_
        refine zT.iload 4 dX4_why_20 rfl ?_
        refine zT.iald dX4_why_22 (zPlan.a303 hg.1) (by first | assumption | exact zq_i _ | exact zand_i _ _ | exact zor_i _ _ | exact zxor_i _ _ | exact zN _ | omega) (by rw [(zPlan.n303 hg.1)]; first | assumption | exact zq_i _ | exact zand_i _ _ | exact zor_i _ _ | exact zxor_i _ _ | exact zN _ | omega) (fun z22 => ?_)
        refine zT.aload_n 0 dX4_why_23 rfl rfl ?_
        refine zT.getF dX4_why_24 fX4_21 rfl (zPlan.k hg.1) (j := 3) (by decide) rfl (zPlan.f303 hg.1) ?_
        refine zT.iload_n 2 dX4_why_27 rfl rfl ?_
        refine zT.iald dX4_why_28 (zPlan.a303 hg.1) (by first | assumption | exact zq_i _ | exact zand_i _ _ | exact zor_i _ _ | exact zxor_i _ _ | exact zN _ | omega) (by rw [(zPlan.n303 hg.1)]; first | assumption | exact zq_i _ | exact zand_i _ _ | exact zor_i _ _ | exact zxor_i _ _ | exact zN _ | omega) (fun z28 => ?_)
        refine zT.ic_ne (tgt := 44) dX4_why_29 (by decide) (by first | assumption | exact zq_i _ | exact zand_i _ _ | exact zor_i _ _ | exact zxor_i _ _ | exact zN _ | omega) (by first | assumption | exact zq_i _ | exact zand_i _ _ | exact zor_i _ _ | exact zxor_i _ _ | exact zN _ | omega) (fun c29 => ?_) (fun c29 => ?_)
        · refine zT.iinc 4 dX4_why_44 rfl (by decide) (zpre1 rfl (zcI _)) ?_
          show zT G _ _ _ [zR p, zR x, zI k, zI (m (p + 1) k), zI (i + 1), zU] _ _ _ _ _ _ _
          refine zT.goto (tgt := 10) dX4_why_47 (by decide) ?_
          exact ih10 _ (by first | assumption | exact zq_i _ | exact zand_i _ _ | exact zor_i _ _ | exact zxor_i _ _ | exact zN _ | omega) (by first | assumption | exact zq_i _ | exact zand_i _ _ | exact zor_i _ _ | exact zxor_i _ _ | exact zN _ | omega) (by exact zal_s hw1 (by unfold aW1; omega)) (by omega)
        · refine zT.aload_n 0 dX4_why_32 rfl rfl ?_
          refine zT.iload 4 dX4_why_33 rfl ?_
          refine zT.iload_n 2 dX4_why_35 rfl rfl ?_
          refine zT.callV (M' := mX4_areMet) (b := p) [zI i, zI k] [] dX4_why_36 kX4_47 rfl rfl (ci := 3) (r := (RX4, TX4, 6)) rfl (zPlan.k hg.1) (C_X4_areMet hg.1 hPl (by first | assumption | exact zq_i _ | exact zand_i _ _ | exact zor_i _ _ | exact zxor_i _ _ | exact zN _ | omega) (by first | assumption | exact zq_i _ | exact zand_i _ _ | exact zor_i _ _ | exact zxor_i _ _ | exact zN _ | omega) (by first | assumption | exact zq_i _ | exact zand_i _ _ | exact zor_i _ _ | exact zxor_i _ _ | exact zN _ | omega) (by first | assumption | exact zq_i _ | exact zand_i _ _ | exact zor_i _ _ | exact zxor_i _ _ | exact zN _ | omega)) (by decide) (k' := 0) (n' := 0) (by omega) (by omega) (by decide) (zdk (v := some (zI (zq (m (p + 3) i < m (p + 3) k + m (p + 5) k ∧ m (p + 3) k < m (p + 3) i + m (p + 5) i)))) ?_) (fun _ _ _ _ h => h.elim)
          show zT G _ _ _ _ [zI (zq (m (p + 3) i < m (p + 3) k + m (p + 5) k ∧ m (p + 3) k < m (p + 3) i + m (p + 5) i))] _ _ _ _ _ _
          refine zT.if_eqB (tgt := 44) dX4_why_39 (by decide) (fun c39 => ?_) (fun c39 => ?_)
          · refine zT.iinc 4 dX4_why_44 rfl (by decide) (zpre1 rfl (zcI _)) ?_
            show zT G _ _ _ [zR p, zR x, zI k, zI (m (p + 1) k), zI (i + 1), zU] _ _ _ _ _ _ _
            refine zT.goto (tgt := 10) dX4_why_47 (by decide) ?_
            exact ih10 _ (by first | assumption | exact zq_i _ | exact zand_i _ _ | exact zor_i _ _ | exact zxor_i _ _ | exact zN _ | omega) (by first | assumption | exact zq_i _ | exact zand_i _ _ | exact zor_i _ _ | exact zxor_i _ _ | exact zN _ | omega) (by exact zal_s hw1 (by unfold aW1; omega)) (by omega)
          · refine zT.iconst dX4_why_42 ?_
            refine zT.iret dX4_why_43 rfl ?_
            exact ⟨by unfold aWhy; rw [zite_t ⟨i, by omega, by omega, by unfold aW1; omega⟩], rfl, rfl⟩
  exact L10 _ _ (by first | assumption | exact zq_i _ | exact zand_i _ _ | exact zor_i _ _ | exact zxor_i _ _ | exact zN _ | omega) (by first | assumption | exact zq_i _ | exact zand_i _ _ | exact zor_i _ _ | exact zxor_i _ _ | exact zN _ | omega) (by exact zal_0) (Nat.lt_succ_self _)

