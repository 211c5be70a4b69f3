/-! brown: the model (written by gen/m_brown2.py) -/
theorem C_X13_take {G : zG} {S : zS} {m : zMm} {b : Int} (hb : zMod S b) : zC G mX13_take 0 0 0 [zR b] S m (zDet (some (zI (m b 1002))) S (zup m b 1002 0)) zNX := by
  refine zC.of [zR b, zU] (by decide) rfl (zEn1 (zcR _) (zEn0 (by simp))) rfl ?_
  obtain ⟨Q9, eQ9⟩ : ∃ z : zQt, z = (zDet (some (zI (m b 1002))) S (zup m b 1002 0)) := ⟨_, rfl⟩
  rw [← eQ9]
  refine zT.aload_n 0 dX13_take_0 rfl rfl ?_
  refine zT.getI dX13_take_1 fX13_125 rfl (zMod.k hb) (j := 2) (by decide) rfl (fun z1 => ?_)
  refine zT.istore_n 1 dX13_take_4 rfl (by decide) (zpre1 rfl (zcR _)) ?_
  show zT G _ _ _ [zR b, zI (m b 1002)] _ _ _ _ _ _ _
  refine zT.aload_n 0 dX13_take_5 rfl rfl ?_
  refine zT.iconst dX13_take_6 ?_
  refine zT.putI dX13_take_7 fX13_125 zs_1002 rfl (zMod.k hb) (j := 2) (by decide) rfl (by first | assumption | exact zq_i _ | exact zand_i _ _ | exact zor_i _ _ | exact zN _ | omega) ?_
  obtain ⟨m1, em1⟩ : ∃ z, z = zup m b 1002 0 := ⟨_, rfl⟩
  rw [← em1]
  refine zT.iload_n 1 dX13_take_10 rfl rfl ?_
  refine zT.iret dX13_take_11 rfl ?_
  rw [eQ9]
  exact ⟨rfl, rfl, by rw [em1]⟩

theorem C_X13_brown {G : zG} {S : zS} {m : zMm} {b : Int} {A : zMm} (hb : zMod S b) (hA : yEq m b A) (hV : aVd A) {mm p : Int} (hmm : zi mm) (hp : zi p) : zC G mX13_brown 3 0 0 [zR b, zI mm, zI p] S m (fun v S' m' => v = some (zJ (fBr (A 1) (A 0 1002) mm p)) ∧ S' = S ∧ zIn b m m' ∧ yEw m' b (zup (zup A 0 1000 0) 0 1002 0)) zNX := by
  have ym := hA.R hV
  have nm := ym.n
  have sm := ym.s
  have rm := ym.r
  have hk := hV.ki.1
  have hk0 := hk.1
  have hp0 := hV.pl.1
  have hp1 := hV.pl.2.1
  refine zC.of [zR b, zI mm, zI p, zU, zU, zU, zU, zU, zU] (by decide) rfl (zEn1 (zcR _) (zEn1 (zcI _) (zEn1 (zcI _) (zEn0 (by simp))))) rfl ?_
  refine zT.rng hb.a1014 (fun zN => ?_)
  obtain ⟨Q9, eQ9⟩ : ∃ z : zQt, z = (fun v S' m' => v = some (zJ (fBr (A 1) (A 0 1002) mm p)) ∧ S' = S ∧ zIn b m m' ∧ yEw m' b (zup (zup A 0 1000 0) 0 1002 0)) := ⟨_, rfl⟩
  rw [← eQ9]
  refine zT.aload_n 0 dX13_brown_0 rfl rfl ?_
  refine zT.iconst dX13_brown_1 ?_
  refine zT.putI dX13_brown_2 fX13_122 zs_1000 rfl (zMod.k hb) (j := 0) (by decide) rfl (by first | assumption | exact zq_i _ | exact zand_i _ _ | exact zor_i _ _ | exact zN _ | omega) ?_
  obtain ⟨m1, em1⟩ : ∃ z, z = zup m b 1000 0 := ⟨_, rfl⟩
  rw [← em1]
  have ym1 : yR m1 b A := by rw [em1]; exact ym.up (by omega)
  have nm1 := ym1.n
  have sm1 := ym1.s
  have rm1 := ym1.r
  refine zT.aload_n 0 dX13_brown_5 rfl rfl ?_
  refine zT.callV (M' := mX13_take) (b := b) [] [] dX13_brown_6 kX13_205 rfl rfl (ci := 10) (r := (RX13, TX13, 62)) rfl (zMod.k hb) (C_X13_take hb) (by decide) (k' := 0) (n' := 0) (by omega) (by omega) (by decide) (zdk (v := some (zI (m1 b 1002))) ?_) (fun _ _ _ _ h => h.elim)
  show zT G _ _ _ _ [zI (m1 b 1002)] _ _ _ _ _ _
  obtain ⟨m2, em2⟩ : ∃ z, z = zup m1 b 1002 0 := ⟨_, rfl⟩
  rw [← em2]
  have ym2 : yR m2 b A := by rw [em2]; exact ym1.up (by omega)
  have nm2 := ym2.n
  have sm2 := ym2.s
  have rm2 := ym2.r
  rw [show m1 b 1002 = A 0 1002 by rw [em1, zup_ne (by omega)]; exact hA.at]
  show zT G _ _ _ _ [zI (A 0 1002)] _ _ _ _ _ _
  have hnb := hV.tp.1
  have hv9 : ∀ j, 0 ≤ j → j < 640 → 0 ≤ A 1 j ∧ A 1 j ≤ 255 := hV.tp.2
  have hE2 : yEw m2 b (zup (zup A 0 1000 0) 0 1002 0) := by rw [em2, em1]; exact hA.up0.up0.w
  have hI2 : zIn b m m2 := by rw [em2, em1]; exact zIn.rf.up0.up0
  refine zT.istore_n 3 dX13_brown_9 rfl (by decide) (zpre1 rfl (zcI _)) ?_
  show zT G _ _ _ [zR b, zI mm, zI p, zI (A 0 1002), zU, zU, zU, zU, zU] _ _ _ _ _ _ _
  refine zT.iload_n 1 dX13_brown_10 rfl rfl ?_
  refine zT.iconst dX13_brown_11 ?_
  refine zT.bipush dX13_brown_12 ?_
  refine zT.callS (M' := mX13_isIn) [zI mm, zI 0, zI 10] [] dX13_brown_14 kX13_189 rfl rfl (C_X13_isIn (by first | assumption | exact zq_i _ | exact zand_i _ _ | exact zor_i _ _ | exact zN _ | omega) (by first | assumption | exact zq_i _ | exact zand_i _ _ | exact zor_i _ _ | exact zN _ | omega) (by first | assumption | exact zq_i _ | exact zand_i _ _ | exact zor_i _ _ | exact zN _ | omega)) (by decide) (k' := 0) (n' := 0) (by omega) (by omega) (by decide) (zdk (v := some (zI (zq (0 ≤ mm ∧ mm ≤ 10)))) ?_) (fun _ _ _ _ h => h.elim)
  show zT G _ _ _ _ [zI (zq (0 ≤ mm ∧ mm ≤ 10))] _ _ _ _ _ _
  refine zT.if_eqB (tgt := 38) dX13_brown_17 (by decide) (fun c17 => ?_) (fun c17 => ?_)
  · refine zT.ldc2 (-1) q2042 (by decide +kernel) dX13_brown_38 ?_
    refine zT.lret dX13_brown_41 rfl ?_
    rw [eQ9]
    exact ⟨by unfold fBr; rw [zite_f (fun z => by have := z.1; omega)], rfl, hI2, hE2⟩
  · refine zT.iload_n 2 dX13_brown_20 rfl rfl ?_
    refine zT.iconst dX13_brown_21 ?_
    refine zT.iconst dX13_brown_22 ?_
    refine zT.callS (M' := mX13_isIn) [zI p, zI 1, zI 4] [] dX13_brown_23 kX13_189 rfl rfl (C_X13_isIn (by first | assumption | exact zq_i _ | exact zand_i _ _ | exact zor_i _ _ | exact zN _ | omega) (by first | assumption | exact zq_i _ | exact zand_i _ _ | exact zor_i _ _ | exact zN _ | omega) (by first | assumption | exact zq_i _ | exact zand_i _ _ | exact zor_i _ _ | exact zN _ | omega)) (by decide) (k' := 0) (n' := 0) (by omega) (by omega) (by decide) (zdk (v := some (zI (zq (1 ≤ p ∧ p ≤ 4)))) ?_) (fun _ _ _ _ h => h.elim)
    show zT G _ _ _ _ [zI (zq (1 ≤ p ∧ p ≤ 4))] _ _ _ _ _ _
    refine zT.if_eqB (tgt := 38) dX13_brown_26 (by decide) (fun c26 => ?_) (fun c26 => ?_)
    · refine zT.ldc2 (-1) q2042 (by decide +kernel) dX13_brown_38 ?_
      refine zT.lret dX13_brown_41 rfl ?_
      rw [eQ9]
      exact ⟨by unfold fBr; rw [zite_f (fun z => by have := z.1; omega)], rfl, hI2, hE2⟩
    · refine zT.iload_n 3 dX13_brown_29 rfl rfl ?_
      refine zT.iconst dX13_brown_30 ?_
      refine zT.iconst dX13_brown_31 ?_
      refine zT.callS (M' := mX13_isIn) [zI (A 0 1002), zI 1, zI 5] [] dX13_brown_32 kX13_189 rfl rfl (C_X13_isIn (by first | assumption | exact zq_i _ | exact zand_i _ _ | exact zor_i _ _ | exact zN _ | omega) (by first | assumption | exact zq_i _ | exact zand_i _ _ | exact zor_i _ _ | exact zN _ | omega) (by first | assumption | exact zq_i _ | exact zand_i _ _ | exact zor_i _ _ | exact zN _ | omega)) (by decide) (k' := 0) (n' := 0) (by omega) (by omega) (by decide) (zdk (v := some (zI (zq (1 ≤ (A 0 1002) ∧ (A 0 1002) ≤ 5)))) ?_) (fun _ _ _ _ h => h.elim)
      show zT G _ _ _ _ [zI (zq (1 ≤ (A 0 1002) ∧ (A 0 1002) ≤ 5))] _ _ _ _ _ _
      refine zT.if_neB (tgt := 42) dX13_brown_35 (by decide) (fun c35 => ?_) (fun c35 => ?_)
      · refine zT.iconst dX13_brown_42 ?_
        refine zT.istore 4 dX13_brown_43 (by decide) (zpre1 rfl (zcI _)) ?_
        show zT G _ _ _ [zR b, zI mm, zI p, zI (A 0 1002), zI 0, zU, zU, zU, zU] _ _ _ _ _ _ _
        refine zT.iconst dX13_brown_45 ?_
        refine zT.istore 5 dX13_brown_46 (by decide) (zpre1 rfl (zcI _)) ?_
        show zT G _ _ _ [zR b, zI mm, zI p, zI (A 0 1002), zI 0, zI 0, zU, zU, zU] _ _ _ _ _ _ _
        have L48 : ∀ (N : Nat) (s : Int) (g : Int), (0 ≤ s) → (s ≤ A 0 1002) → (g = fTd (A 1) s) → (∀ j, 0 ≤ j → j < s → A 1 j ≤ 3) → ((A 0 1002 - s).toNat) < N → zT G mX13_brown 3 48 [zR b, zI mm, zI p, zI (A 0 1002), zI g, zI s, zU, zU, zU] [] S m2 0 0 Q9 zNX := by
          intro N
          induction N with
          | zero => intro s g s0 s1 hg hT hN; exact absurd hN (Nat.not_lt_zero _)
          | succ N ih48 =>
            intro s g s0 s1 hg hT hN
            have hgi : zi g := by rw [hg]; have q := fTd_i (T := A 1) s0 (by omega) (fun j a c => ⟨(hv9 j a (by omega)).1, hT j a c⟩); unfold zi; omega
            refine zT.iload 5 dX13_brown_48 rfl ?_
            refine zT.iload_n 3 dX13_brown_50 rfl rfl ?_
            refine zT.ic_ge (tgt := 92) dX13_brown_51 (by decide) (by first | assumption | exact zq_i _ | exact zand_i _ _ | exact zor_i _ _ | exact zN _ | omega) (by first | assumption | exact zq_i _ | exact zand_i _ _ | exact zor_i _ _ | exact zN _ | omega) (fun c51 => ?_) (fun c51 => ?_)
            · have hsn : s = A 0 1002 := by omega
              rw [hsn] at hg hT
              have gb := fTd_i (T := A 1) (n := A 0 1002) (by omega) (by omega) (fun j a c => ⟨(hv9 j a (by omega)).1, hT j a c⟩)
              rw [← hg] at gb
              refine zT.iconst dX13_brown_92 ?_
              refine zT.istore 5 dX13_brown_93 (by decide) (zpre1 rfl (zcI _)) ?_
              show zT G _ _ _ [zR b, zI mm, zI p, zI (A 0 1002), zI g, zI 0, zU, zU, zU] _ _ _ _ _ _ _
              have L95 : ∀ (N : Nat) (mA : zMm) (k : Int), (zSc b m2 mA) → (0 ≤ k) → (k ≤ 1024) → (∀ t, 0 ≤ t → t < k → mA (b + 33) t = bRw g p 0 t) → ((1024 - k).toNat) < N → zT G mX13_brown 3 95 [zR b, zI mm, zI p, zI (A 0 1002), zI g, zI k, zU, zU, zU] [] S mA 0 0 Q9 zNX := by
                intro N
                induction N with
                | zero => intro mA k hs k0 k1 hW hN; exact absurd hN (Nat.not_lt_zero _)
                | succ N ih95 =>
                  intro mA k hs k0 k1 hW hN
                  refine zT.iload 5 dX13_brown_95 rfl ?_
                  refine zT.sipush dX13_brown_97 ?_
                  refine zT.ic_ge (tgt := 126) dX13_brown_100 (by decide) (by first | assumption | exact zq_i _ | exact zand_i _ _ | exact zor_i _ _ | exact zN _ | omega) (by first | assumption | exact zq_i _ | exact zand_i _ _ | exact zor_i _ _ | exact zN _ | omega) (fun c100 => ?_) (fun c100 => ?_)
                  · refine zT.iconst dX13_brown_126 ?_
                    refine zT.istore 5 dX13_brown_127 (by decide) (zpre1 rfl (zcI _)) ?_
                    show zT G _ _ _ [zR b, zI mm, zI p, zI (A 0 1002), zI g, zI 0, zU, zU, zU] _ _ _ _ _ _ _
                    have L129 : ∀ (N : Nat) (mA : zMm) (i : Int), (zSc b m2 mA) → (0 ≤ i) → (i ≤ mm) → (∀ t, 0 ≤ t → t < 1024 → mA (b + 33) t = bRw g p i.toNat t) → ((mm - i).toNat) < N → zT G mX13_brown 3 129 [zR b, zI mm, zI p, zI (A 0 1002), zI g, zI i, zU, zU, zU] [] S mA 0 0 Q9 zNX := by
                      intro N
                      induction N with
                      | zero => intro mA i hs i0 i1 hW hN; exact absurd hN (Nat.not_lt_zero _)
                      | succ N ih129 =>
                        intro mA i hs i0 i1 hW hN
                        refine zT.iload 5 dX13_brown_129 rfl ?_
                        refine zT.iload_n 1 dX13_brown_131 rfl rfl ?_
                        refine zT.ic_ge (tgt := 297) dX13_brown_132 (by decide) (by first | assumption | exact zq_i _ | exact zand_i _ _ | exact zor_i _ _ | exact zN _ | omega) (by first | assumption | exact zq_i _ | exact zand_i _ _ | exact zor_i _ _ | exact zN _ | omega) (fun c132 => ?_) (fun c132 => ?_)
                        · refine zT.aload_n 0 dX13_brown_297 rfl rfl ?_
                          refine zT.getF dX13_brown_298 fX13_113 rfl (zMod.k hb) (j := 54) (by decide) rfl (zMod.f1054 hb) ?_
                          refine zT.iload 4 dX13_brown_301 rfl ?_
                          refine zT.lald dX13_brown_303 (zMod.a1054 hb) (by first | assumption | exact zq_i _ | exact zand_i _ _ | exact zor_i _ _ | exact zN _ | omega) (by rw [(zMod.n1054 hb)]; first | assumption | exact zq_i _ | exact zand_i _ _ | exact zor_i _ _ | exact zN _ | omega) (fun z303 => ?_)
                          rw [hW g gb.1 gb.2]
                          show zT G _ _ _ _ [zJ (bRw g p i.toNat g)] _ _ _ _ _ _
                          refine zT.lret dX13_brown_304 rfl ?_
                          rw [eQ9]
                          have hi9 : i = mm := by omega
                          refine ⟨?_, rfl, hI2.tr hs.inn, hE2.sc hs⟩
                          unfold fBr
                          rw [zite_t ⟨by omega, hT⟩, hi9, hg]
                        · have hSW := bSp.rw (p := p) gb.1 gb.2 i.toNat
                          obtain ⟨W, hW0⟩ : ∃ z, z = bRw g p i.toNat := ⟨_, rfl⟩
                          rw [← hW0] at hW hSW
                          refine zT.iconst dX13_brown_135 ?_
                          refine zT.istore 6 dX13_brown_136 (by decide) (zpre1 rfl (zcI _)) ?_
                          show zT G _ _ _ [zR b, zI mm, zI p, zI (A 0 1002), zI g, zI i, zI 0, zU, zU] _ _ _ _ _ _ _
                          have L138 : ∀ (N : Nat) (mB : zMm) (k : Int), (zSc b m2 mB) → (0 ≤ k) → (k ≤ 1024) → (∀ t, 0 ≤ t → t < 1024 → mB (b + 33) t = W t) → (∀ t, 0 ≤ t → t < k → mB (b + 34) t = 0) → ((1024 - k).toNat) < N → zT G mX13_brown 3 138 [zR b, zI mm, zI p, zI (A 0 1002), zI g, zI i, zI k, zU, zU] [] S mB 0 0 Q9 zNX := by
                            intro N
                            induction N with
                            | zero => intro mB k hs k0 k1 hW hX hN; exact absurd hN (Nat.not_lt_zero _)
                            | succ N ih138 =>
                              intro mB k hs k0 k1 hW hX hN
                              refine zT.iload 6 dX13_brown_138 rfl ?_
                              refine zT.sipush dX13_brown_140 ?_
                              refine zT.ic_ge (tgt := 160) dX13_brown_143 (by decide) (by first | assumption | exact zq_i _ | exact zand_i _ _ | exact zor_i _ _ | exact zN _ | omega) (by first | assumption | exact zq_i _ | exact zand_i _ _ | exact zor_i _ _ | exact zN _ | omega) (fun c143 => ?_) (fun c143 => ?_)
                              · refine zT.iconst dX13_brown_160 ?_
                                refine zT.istore 6 dX13_brown_161 (by decide) (zpre1 rfl (zcI _)) ?_
                                show zT G _ _ _ [zR b, zI mm, zI p, zI (A 0 1002), zI g, zI i, zI 0, zU, zU] _ _ _ _ _ _ _
                                have L163 : ∀ (N : Nat) (mC : zMm) (t : Int), (zSc b m2 mC) → (0 ≤ t) → (t ≤ 1024) → (∀ t, 0 ≤ t → t < 1024 → mC (b + 33) t = W t) → (∀ u, 0 ≤ u → u < 1024 → mC (b + 34) u = bSt g p W t.toNat u) → ((1024 - t).toNat) < N → zT G mX13_brown 3 163 [zR b, zI mm, zI p, zI (A 0 1002), zI g, zI i, zI t, zU, zU] [] S mC 0 0 Q9 zNX := by
                                  intro N
                                  induction N with
                                  | zero => intro mC t hs t0 t1 hW hX hN; exact absurd hN (Nat.not_lt_zero _)
                                  | succ N ih163 =>
                                    intro mC t hs t0 t1 hW hX hN
                                    refine zT.iload 6 dX13_brown_163 rfl ?_
                                    refine zT.sipush dX13_brown_165 ?_
                                    refine zT.ic_ge (tgt := 260) dX13_brown_168 (by decide) (by first | assumption | exact zq_i _ | exact zand_i _ _ | exact zor_i _ _ | exact zN _ | omega) (by first | assumption | exact zq_i _ | exact zand_i _ _ | exact zor_i _ _ | exact zN _ | omega) (fun c168 => ?_) (fun c168 => ?_)
                                    · refine zT.iconst dX13_brown_260 ?_
                                      refine zT.istore 6 dX13_brown_261 (by decide) (zpre1 rfl (zcI _)) ?_
                                      show zT G _ _ _ [zR b, zI mm, zI p, zI (A 0 1002), zI g, zI i, zI 0, zU, zU] _ _ _ _ _ _ _
                                      have L263 : ∀ (N : Nat) (mE : zMm) (k : Int), (zSc b m2 mE) → (0 ≤ k) → (k ≤ 1024) → (∀ u, 0 ≤ u → u < 1024 → mE (b + 34) u = bRw g p (i + 1).toNat u) → (∀ u, 0 ≤ u → u < k → mE (b + 33) u = bRw g p (i + 1).toNat u) → ((1024 - k).toNat) < N → zT G mX13_brown 3 263 [zR b, zI mm, zI p, zI (A 0 1002), zI g, zI i, zI k, zU, zU] [] S mE 0 0 Q9 zNX := by
                                        intro N
                                        induction N with
                                        | zero => intro mE k hs k0 k1 hX hNn hN; exact absurd hN (Nat.not_lt_zero _)
                                        | succ N ih263 =>
                                          intro mE k hs k0 k1 hX hNn hN
                                          refine zT.iload 6 dX13_brown_263 rfl ?_
                                          refine zT.sipush dX13_brown_265 ?_
                                          refine zT.ic_ge (tgt := 291) dX13_brown_268 (by decide) (by first | assumption | exact zq_i _ | exact zand_i _ _ | exact zor_i _ _ | exact zN _ | omega) (by first | assumption | exact zq_i _ | exact zand_i _ _ | exact zor_i _ _ | exact zN _ | omega) (fun c268 => ?_) (fun c268 => ?_)
                                          · refine zT.iinc 5 dX13_brown_291 rfl (by decide) (zpre1 rfl (zcI _)) ?_
                                            show zT G _ _ _ [zR b, zI mm, zI p, zI (A 0 1002), zI g, zI (i + 1), zI k, zU, zU] _ _ _ _ _ _ _
                                            refine zT.goto (tgt := 129) dX13_brown_294 (by decide) ?_
                                            refine zT.loc (V' := [zR b, zI mm, zI p, zI (A 0 1002), zI g, zI (i + 1), zU, zU, zU]) ?_ ⟨Or.inr rfl, Or.inr rfl, Or.inr rfl, Or.inr rfl, Or.inr rfl, Or.inr rfl, Or.inl rfl, Or.inr rfl, Or.inr rfl, trivial⟩
                                            exact ih129 _ _ (by exact hs) (by first | assumption | exact zq_i _ | exact zand_i _ _ | exact zor_i _ _ | exact zN _ | omega) (by first | assumption | exact zq_i _ | exact zand_i _ _ | exact zor_i _ _ | exact zN _ | omega) (by exact fun t a c => hNn t a (by omega)) (by omega)
                                          · refine zT.aload_n 0 dX13_brown_271 rfl rfl ?_
                                            refine zT.getF dX13_brown_272 fX13_113 rfl (zMod.k hb) (j := 54) (by decide) rfl (zMod.f1054 hb) ?_
                                            refine zT.iload 6 dX13_brown_275 rfl ?_
                                            refine zT.aload_n 0 dX13_brown_277 rfl rfl ?_
                                            refine zT.getF dX13_brown_278 fX13_116 rfl (zMod.k hb) (j := 55) (by decide) rfl (zMod.f1055 hb) ?_
                                            refine zT.iload 6 dX13_brown_281 rfl ?_
                                            refine zT.lald dX13_brown_283 (zMod.a1055 hb) (by first | assumption | exact zq_i _ | exact zand_i _ _ | exact zor_i _ _ | exact zN _ | omega) (by rw [(zMod.n1055 hb)]; first | assumption | exact zq_i _ | exact zand_i _ _ | exact zor_i _ _ | exact zN _ | omega) (fun z283 => ?_)
                                            rw [hX k k0 (by omega)]
                                            show zT G _ _ _ _ [zJ (bRw g p (i + 1).toNat k), zI k, zR (b + 33)] _ _ _ _ _ _
                                            have hjz := (bSp.rw (p := p) gb.1 gb.2 (i + 1).toNat).2 k
                                            refine zT.last dX13_brown_284 (zMod.a1054 hb) (by first | assumption | exact zq_i _ | exact zand_i _ _ | exact zor_i _ _ | exact zN _ | omega) (by rw [(zMod.n1054 hb)]; first | assumption | exact zq_i _ | exact zand_i _ _ | exact zor_i _ _ | exact zN _ | omega) (by first | assumption | exact zq_i _ | exact zand_i _ _ | exact zor_i _ _ | exact zN _ | omega) ?_
                                            obtain ⟨m3, em3⟩ : ∃ z, z = zup mE (b + 33) k (bRw g p (i + 1).toNat k) := ⟨_, rfl⟩
                                            rw [← em3]
                                            refine zT.iinc 6 dX13_brown_285 rfl (by decide) (zpre1 rfl (zcI _)) ?_
                                            show zT G _ _ _ [zR b, zI mm, zI p, zI (A 0 1002), zI g, zI i, zI (k + 1), zU, zU] _ _ _ _ _ _ _
                                            refine zT.goto (tgt := 263) dX13_brown_288 (by decide) ?_
                                            exact ih263 _ _ (by rw [em3]; exact hs.up (by omega) (by unfold zUw; omega)) (by omega) (by omega) (by exact fun u a c => by rw [em3, zup_ne (by omega)]; exact hX u a c) (by
                                                exact fun u a c => by
                                                  by_cases q : u = k
                                                  · rw [q, em3, zup_at]
                                                  · rw [em3, zup_ne (by omega)]; exact hNn u a (by omega)) (by omega)
                                      exact L263 _ _ _ (by exact hs) (by first | assumption | exact zq_i _ | exact zand_i _ _ | exact zor_i _ _ | exact zN _ | omega) (by first | assumption | exact zq_i _ | exact zand_i _ _ | exact zor_i _ _ | exact zN _ | omega) (by exact fun u a c => by rw [hX u a c, show (i + 1).toNat = i.toNat + 1 by omega]; show _ = bSt g p (bRw g p i.toNat) 1024 u; rw [← hW0, show t.toNat = 1024 by omega]) (by exact fun u a c => by omega) (Nat.lt_succ_self _)
                                    · refine zT.aload_n 0 dX13_brown_171 rfl rfl ?_
                                      refine zT.getF dX13_brown_172 fX13_113 rfl (zMod.k hb) (j := 54) (by decide) rfl (zMod.f1054 hb) ?_
                                      refine zT.iload 6 dX13_brown_175 rfl ?_
                                      refine zT.lald dX13_brown_177 (zMod.a1054 hb) (by first | assumption | exact zq_i _ | exact zand_i _ _ | exact zor_i _ _ | exact zN _ | omega) (by rw [(zMod.n1054 hb)]; first | assumption | exact zq_i _ | exact zand_i _ _ | exact zor_i _ _ | exact zN _ | omega) (fun z177 => ?_)
                                      rw [hW t t0 (by omega)]
                                      show zT G _ _ _ _ [zJ (W t)] _ _ _ _ _ _
                                      have hwz := hSW.2 t
                                      refine zT.lconst dX13_brown_178 ?_
                                      show zT G _ _ _ _ (zJ 0 :: _) _ _ _ _ _ _
                                      refine zT.lc_ne (tgt := 186) dX13_brown_179 dX13_brown_180 (by decide) (by first | assumption | exact zq_i _ | exact zand_i _ _ | exact zor_i _ _ | exact zN _ | omega) (by first | assumption | exact zq_i _ | exact zand_i _ _ | exact zor_i _ _ | exact zN _ | omega) (fun c179 => ?_) (fun c179 => ?_)
                                      · have hst : fSu t g := hSW.1 t t0 (by omega) (by assumption)
                                        have hfr := fFr (s := t) (g := g) t0 (by omega) gb.1 gb.2
                                        obtain ⟨fr, hfr0⟩ : ∃ z, z = zand g (zxor t (-1)) := ⟨_, rfl⟩
                                        rw [← hfr0] at hfr
                                        refine zT.iload 4 dX13_brown_186 rfl ?_
                                        refine zT.iload 6 dX13_brown_188 rfl ?_
                                        refine zT.iconst dX13_brown_190 ?_
                                        refine zT.ixor dX13_brown_191 ?_
                                        refine zT.iand dX13_brown_192 ?_
                                        rw [← hfr0]
                                        show zT G _ _ _ _ [zI fr] _ _ _ _ _ _
                                        obtain ⟨R, hR9⟩ : ∃ z, z = bSt g p W (t + 1).toNat := ⟨_, rfl⟩
                                        have hRs := bSp.st (p := p) gb.1 gb.2 hSW t.toNat (by omega)
                                        have hR8 : bCh p t (W t) fr 1024 fr (bSt g p W t.toNat) = R := by
                                                                                  rw [hR9, show (t + 1).toNat = t.toNat + 1 by omega]
                                                                                  conv => rhs; unfold bSt
                                                                                  rw [show ((t.toNat : Nat) : Int) = t by omega, if_neg (by assumption), ← hfr0]
                                        refine zT.istore 7 dX13_brown_193 (by decide) (zpre1 rfl (zcI _)) ?_
                                        show zT G _ _ _ [zR b, zI mm, zI p, zI (A 0 1002), zI g, zI i, zI t, zI fr, zU] _ _ _ _ _ _ _
                                        refine zT.iload 7 dX13_brown_195 rfl ?_
                                        refine zT.istore 8 dX13_brown_197 (by decide) (zpre1 rfl (zcI _)) ?_
                                        show zT G _ _ _ [zR b, zI mm, zI p, zI (A 0 1002), zI g, zI i, zI t, zI fr, zI fr] _ _ _ _ _ _ _
                                        have L199 : ∀ (N : Nat) (mD : zMm) (Y : Int → Int) (o : Int) (q : Nat), (zSc b m2 mD) → (∀ t, 0 ≤ t → t < 1024 → mD (b + 33) t = W t) → (∀ u, 0 ≤ u → u < 1024 → mD (b + 34) u = Y u) → (bSp g Y) → (-1 ≤ o ∧ o < 1024) → ((o = -1 ∧ Y = R) ∨ (0 ≤ o ∧ fSu o g ∧ o < q ∧ bCh p t (W t) fr q o Y = R)) → ((o + 1).toNat) < N → zT G mX13_brown 3 199 [zR b, zI mm, zI p, zI (A 0 1002), zI g, zI i, zI t, zI fr, zI o] [] S mD 0 0 Q9 zNX := by
                                          intro N
                                          induction N with
                                          | zero => intro mD Y o q hs hW hY hYs o0 hT hN; exact absurd hN (Nat.not_lt_zero _)
                                          | succ N ih199 =>
                                            intro mD Y o q hs hW hY hYs o0 hT hN
                                            refine zT.iload 8 dX13_brown_199 rfl ?_
                                            refine zT.if_lt (tgt := 254) dX13_brown_201 (by decide) (by first | assumption | exact zq_i _ | exact zand_i _ _ | exact zor_i _ _ | exact zN _ | omega) (fun c201 => ?_) (fun c201 => ?_)
                                            · have hYR : Y = R := by rcases hT with z | z; exact z.2; omega
                                              refine zT.iinc 6 dX13_brown_254 rfl (by decide) (zpre1 rfl (zcI _)) ?_
                                              show zT G _ _ _ [zR b, zI mm, zI p, zI (A 0 1002), zI g, zI i, zI (t + 1), zI fr, zI o] _ _ _ _ _ _ _
                                              refine zT.goto (tgt := 163) dX13_brown_257 (by decide) ?_
                                              refine zT.loc (V' := [zR b, zI mm, zI p, zI (A 0 1002), zI g, zI i, zI (t + 1), zU, zU]) ?_ ⟨Or.inr rfl, Or.inr rfl, Or.inr rfl, Or.inr rfl, Or.inr rfl, Or.inr rfl, Or.inr rfl, Or.inl rfl, Or.inl rfl, trivial⟩
                                              exact ih163 _ _ (by exact hs) (by omega) (by omega) (by exact hW) (by exact fun u a c => by rw [hY u a c, hYR, hR9]) (by omega)
                                            · obtain ⟨o1, hog, hoq, hT9⟩ : 0 ≤ o ∧ fSu o g ∧ o < q ∧ bCh p t (W t) fr q o Y = R := by rcases hT with z | z; omega; exact z
                                              obtain ⟨q, rfl⟩ : ∃ z, q = z + 1 := ⟨q - 1, by omega⟩
                                              have hor := fOr t0 (by omega) o1 o0.2 gb.1 gb.2 hst hog
                                              have hYu := hYs.up (o := o) (s := t) (w := W t) (p := p) gb.1 gb.2 t0 (by omega) o1 o0.2 hst hog
                                              refine zT.iload 8 dX13_brown_204 rfl ?_
                                              refine zT.iload_n 2 dX13_brown_206 rfl rfl ?_
                                              refine zT.callS (M' := mX13_mayBe) [zI o, zI p] [] dX13_brown_207 kX13_436 rfl rfl (C_X13_mayBe (by omega) (by omega) (by omega)) (by decide) (k' := 0) (n' := 0) (by omega) (by omega) (by decide) (zdk (v := some (zI (zq (fPc o ≤ p ∧ fPr o)))) ?_) (fun _ _ _ _ h => h.elim)
                                              show zT G _ _ _ _ [zI (zq (fPc o ≤ p ∧ fPr o))] _ _ _ _ _ _
                                              refine zT.if_eqB (tgt := 233) dX13_brown_210 (by decide) (fun c210 => ?_) (fun c210 => ?_)
                                              · have hc9 : ¬ (fPc o ≤ p ∧ fPr o) := by assumption
                                                rw [if_neg hc9] at hYu
                                                have hs7 := hs
                                                have hW7 := hW
                                                have hY7 := hY
                                                have hYs7 := hYu
                                                refine zT.iload 8 dX13_brown_233 rfl ?_
                                                refine zT.if_ne (tgt := 242) dX13_brown_235 (by decide) (by first | assumption | exact zq_i _ | exact zand_i _ _ | exact zor_i _ _ | exact zN _ | omega) (fun c235 => ?_) (fun c235 => ?_)
                                                · rw [bCh_1 (by assumption), if_neg hc9] at hT9
                                                  have hnx := fNx (o := o) (f := fr) (by omega) o0.2 hfr.1 hfr.2.1
                                                  have hT7 : (zand (o - 1) fr = -1 ∧ Y = R) ∨ (0 ≤ zand (o - 1) fr ∧ fSu (zand (o - 1) fr) g ∧ zand (o - 1) fr < (q : Int) ∧ bCh p t (W t) fr q (zand (o - 1) fr) Y = R) := Or.inr ⟨hnx.1, fSu_tr hnx.1 (by omega) hfr.1 hfr.2.1 gb.1 gb.2 hnx.2.2 hfr.2.2, by omega, hT9⟩
                                                  refine zT.iload 8 dX13_brown_242 rfl ?_
                                                  refine zT.iconst dX13_brown_244 ?_
                                                  refine zT.isub dX13_brown_245 ?_
                                                  refine zT.iload 7 dX13_brown_246 rfl ?_
                                                  refine zT.iand dX13_brown_248 ?_
                                                  refine zT.istore 8 dX13_brown_249 (by decide) (zpre1 rfl (zcI _)) ?_
                                                  show zT G _ _ _ [zR b, zI mm, zI p, zI (A 0 1002), zI g, zI i, zI t, zI fr, zI (zand (o - 1) fr)] _ _ _ _ _ _ _
                                                  refine zT.goto (tgt := 199) dX13_brown_251 (by decide) ?_
                                                  exact ih199 _ _ _ q (by exact hs7) (by exact hW7) (by exact hY7) (by exact hYs7) (by omega) (by exact hT7) (by omega)
                                                · rw [bCh_0 (by assumption), if_neg hc9] at hT9
                                                  have hT7 : ((-1 : Int) = -1 ∧ Y = R) ∨ (0 ≤ (-1 : Int) ∧ fSu (-1) g ∧ (-1 : Int) < q ∧ bCh p t (W t) fr q (-1) Y = R) := Or.inl ⟨rfl, hT9⟩
                                                  refine zT.iconst dX13_brown_238 ?_
                                                  refine zT.goto (tgt := 249) dX13_brown_239 (by decide) ?_
                                                  refine zT.istore 8 dX13_brown_249 (by decide) (zpre1 rfl (zcI _)) ?_
                                                  show zT G _ _ _ [zR b, zI mm, zI p, zI (A 0 1002), zI g, zI i, zI t, zI fr, zI (-1)] _ _ _ _ _ _ _
                                                  refine zT.goto (tgt := 199) dX13_brown_251 (by decide) ?_
                                                  exact ih199 _ _ _ q (by exact hs7) (by exact hW7) (by exact hY7) (by exact hYs7) (by omega) (by exact hT7) (by omega)
                                              · refine zT.aload_n 0 dX13_brown_213 rfl rfl ?_
                                                refine zT.getF dX13_brown_214 fX13_116 rfl (zMod.k hb) (j := 55) (by decide) rfl (zMod.f1055 hb) ?_
                                                refine zT.iload 6 dX13_brown_217 rfl ?_
                                                refine zT.iload 8 dX13_brown_219 rfl ?_
                                                refine zT.ior dX13_brown_221 ?_
                                                refine zT.dup2 dX13_brown_222 (zcI _) (zcR _) ?_
                                                refine zT.lald dX13_brown_223 (zMod.a1055 hb) (by first | assumption | exact zq_i _ | exact zand_i _ _ | exact zor_i _ _ | exact zN _ | omega) (by rw [(zMod.n1055 hb)]; first | assumption | exact zq_i _ | exact zand_i _ _ | exact zor_i _ _ | exact zN _ | omega) (fun z223 => ?_)
                                                rw [hY (zor t o) hor.1 (by omega)]
                                                show zT G _ _ _ _ [zJ (Y (zor t o)), zI (zor t o), zR (b + 34)] _ _ _ _ _ _
                                                refine zT.aload_n 0 dX13_brown_224 rfl rfl ?_
                                                refine zT.getF dX13_brown_225 fX13_113 rfl (zMod.k hb) (j := 54) (by decide) rfl (zMod.f1054 hb) ?_
                                                refine zT.iload 6 dX13_brown_228 rfl ?_
                                                refine zT.lald dX13_brown_230 (zMod.a1054 hb) (by first | assumption | exact zq_i _ | exact zand_i _ _ | exact zor_i _ _ | exact zN _ | omega) (by rw [(zMod.n1054 hb)]; first | assumption | exact zq_i _ | exact zand_i _ _ | exact zor_i _ _ | exact zN _ | omega) (fun z230 => ?_)
                                                rw [hW t t0 (by omega)]
                                                show zT G _ _ _ _ [zJ (W t), zJ (Y (zor t o)), zI (zor t o), zR (b + 34)] _ _ _ _ _ _
                                                refine zT.ladd dX13_brown_231 ?_
                                                refine zT.normJ (jbm_64 _) ?_
                                                show zT G _ _ _ _ [zJ (jbm (Y (zor t o) + W t)), zI (zor t o), zR (b + 34)] _ _ _ _ _ _
                                                have hjj := jbm_j (Y (zor t o) + W t)
                                                refine zT.last dX13_brown_232 (zMod.a1055 hb) (by first | assumption | exact zq_i _ | exact zand_i _ _ | exact zor_i _ _ | exact zN _ | omega) (by rw [(zMod.n1055 hb)]; first | assumption | exact zq_i _ | exact zand_i _ _ | exact zor_i _ _ | exact zN _ | omega) (by first | assumption | exact zq_i _ | exact zand_i _ _ | exact zor_i _ _ | exact zN _ | omega) ?_
                                                obtain ⟨m4, em4⟩ : ∃ z, z = zup mD (b + 34) (zor t o) (jbm (Y (zor t o) + W t)) := ⟨_, rfl⟩
                                                rw [← em4]
                                                have hc9 : fPc o ≤ p ∧ fPr o := by assumption
                                                rw [if_pos hc9] at hYu
                                                have hs7 : zSc b m2 m4 := by rw [em4]; exact hs.up (by omega) (by unfold zUw; omega)
                                                have hW7 : ∀ t, 0 ≤ t → t < 1024 → m4 (b + 33) t = W t := fun t a c => by rw [em4, zup_ne (by omega)]; exact hW t a c
                                                have hY7 : ∀ u, 0 ≤ u → u < 1024 → m4 (b + 34) u = fSet Y (zor t o) (jbm (Y (zor t o) + W t)) u := fun u a c => by
                                                                                                  rw [em4]
                                                                                                  by_cases z : u = zor t o
                                                                                                  · rw [z, zup_at, fSet_at]
                                                                                                  · rw [zup_ne (fun y => z y.2), fSet_ne z]; exact hY u a c
                                                have hYs7 := hYu
                                                refine zT.iload 8 dX13_brown_233 rfl ?_
                                                refine zT.if_ne (tgt := 242) dX13_brown_235 (by decide) (by first | assumption | exact zq_i _ | exact zand_i _ _ | exact zor_i _ _ | exact zN _ | omega) (fun c235 => ?_) (fun c235 => ?_)
                                                · rw [bCh_1 (by assumption), if_pos hc9] at hT9
                                                  have hnx := fNx (o := o) (f := fr) (by omega) o0.2 hfr.1 hfr.2.1
                                                  have hT7 : (zand (o - 1) fr = -1 ∧ (fSet Y (zor t o) (jbm (Y (zor t o) + W t))) = R) ∨ (0 ≤ zand (o - 1) fr ∧ fSu (zand (o - 1) fr) g ∧ zand (o - 1) fr < (q : Int) ∧ bCh p t (W t) fr q (zand (o - 1) fr) (fSet Y (zor t o) (jbm (Y (zor t o) + W t))) = R) := Or.inr ⟨hnx.1, fSu_tr hnx.1 (by omega) hfr.1 hfr.2.1 gb.1 gb.2 hnx.2.2 hfr.2.2, by omega, hT9⟩
                                                  refine zT.iload 8 dX13_brown_242 rfl ?_
                                                  refine zT.iconst dX13_brown_244 ?_
                                                  refine zT.isub dX13_brown_245 ?_
                                                  refine zT.iload 7 dX13_brown_246 rfl ?_
                                                  refine zT.iand dX13_brown_248 ?_
                                                  refine zT.istore 8 dX13_brown_249 (by decide) (zpre1 rfl (zcI _)) ?_
                                                  show zT G _ _ _ [zR b, zI mm, zI p, zI (A 0 1002), zI g, zI i, zI t, zI fr, zI (zand (o - 1) fr)] _ _ _ _ _ _ _
                                                  refine zT.goto (tgt := 199) dX13_brown_251 (by decide) ?_
                                                  exact ih199 _ _ _ q (by exact hs7) (by exact hW7) (by exact hY7) (by exact hYs7) (by omega) (by exact hT7) (by omega)
                                                · rw [bCh_0 (by assumption), if_pos hc9] at hT9
                                                  have hT7 : ((-1 : Int) = -1 ∧ (fSet Y (zor t o) (jbm (Y (zor t o) + W t))) = R) ∨ (0 ≤ (-1 : Int) ∧ fSu (-1) g ∧ (-1 : Int) < q ∧ bCh p t (W t) fr q (-1) (fSet Y (zor t o) (jbm (Y (zor t o) + W t))) = R) := Or.inl ⟨rfl, hT9⟩
                                                  refine zT.iconst dX13_brown_238 ?_
                                                  refine zT.goto (tgt := 249) dX13_brown_239 (by decide) ?_
                                                  refine zT.istore 8 dX13_brown_249 (by decide) (zpre1 rfl (zcI _)) ?_
                                                  show zT G _ _ _ [zR b, zI mm, zI p, zI (A 0 1002), zI g, zI i, zI t, zI fr, zI (-1)] _ _ _ _ _ _ _
                                                  refine zT.goto (tgt := 199) dX13_brown_251 (by decide) ?_
                                                  exact ih199 _ _ _ q (by exact hs7) (by exact hW7) (by exact hY7) (by exact hYs7) (by omega) (by exact hT7) (by omega)
                                        exact L199 _ _ _ _ 1024 (by exact hs) (by exact hW) (by exact hX) (by exact hRs) (by omega) (by exact Or.inr ⟨hfr.1, hfr.2.2, by omega, hR8⟩) (Nat.lt_succ_self _)
                                      · refine zT.goto (tgt := 254) dX13_brown_183 (by decide) ?_
                                        refine zT.iinc 6 dX13_brown_254 rfl (by decide) (zpre1 rfl (zcI _)) ?_
                                        show zT G _ _ _ [zR b, zI mm, zI p, zI (A 0 1002), zI g, zI i, zI (t + 1), zU, zU] _ _ _ _ _ _ _
                                        refine zT.goto (tgt := 163) dX13_brown_257 (by decide) ?_
                                        exact ih163 _ _ (by exact hs) (by omega) (by omega) (by exact hW) (by
                                            intro u u0 u1
                                            rw [hX u u0 u1, show (t + 1).toNat = t.toNat + 1 by omega]
                                            conv => rhs; unfold bSt
                                            rw [show ((t.toNat : Nat) : Int) = t by omega, if_pos (by assumption)]) (by omega)
                                exact L163 _ _ _ (by exact hs) (by first | assumption | exact zq_i _ | exact zand_i _ _ | exact zor_i _ _ | exact zN _ | omega) (by first | assumption | exact zq_i _ | exact zand_i _ _ | exact zor_i _ _ | exact zN _ | omega) (by exact hW) (by exact fun u a c => hX u a (by omega)) (Nat.lt_succ_self _)
                              · refine zT.aload_n 0 dX13_brown_146 rfl rfl ?_
                                refine zT.getF dX13_brown_147 fX13_116 rfl (zMod.k hb) (j := 55) (by decide) rfl (zMod.f1055 hb) ?_
                                refine zT.iload 6 dX13_brown_150 rfl ?_
                                refine zT.lconst dX13_brown_152 ?_
                                show zT G _ _ _ _ (zJ 0 :: _) _ _ _ _ _ _
                                refine zT.last dX13_brown_153 (zMod.a1055 hb) (by first | assumption | exact zq_i _ | exact zand_i _ _ | exact zor_i _ _ | exact zN _ | omega) (by rw [(zMod.n1055 hb)]; first | assumption | exact zq_i _ | exact zand_i _ _ | exact zor_i _ _ | exact zN _ | omega) (by first | assumption | exact zq_i _ | exact zand_i _ _ | exact zor_i _ _ | exact zN _ | omega) ?_
                                obtain ⟨m5, em5⟩ : ∃ z, z = zup mB (b + 34) k 0 := ⟨_, rfl⟩
                                rw [← em5]
                                refine zT.iinc 6 dX13_brown_154 rfl (by decide) (zpre1 rfl (zcI _)) ?_
                                show zT G _ _ _ [zR b, zI mm, zI p, zI (A 0 1002), zI g, zI i, zI (k + 1), zU, zU] _ _ _ _ _ _ _
                                refine zT.goto (tgt := 138) dX13_brown_157 (by decide) ?_
                                exact ih138 _ _ (by rw [em5]; exact hs.up (by omega) (by unfold zUw; omega)) (by omega) (by omega) (by exact fun t a c => by rw [em5, zup_ne (by omega)]; exact hW t a c) (by
                                    exact fun t a c => by
                                      by_cases q : t = k
                                      · rw [q, em5, zup_at]
                                      · rw [em5, zup_ne (by omega)]; exact hX t a (by omega)) (by omega)
                          exact L138 _ _ _ (by exact hs) (by first | assumption | exact zq_i _ | exact zand_i _ _ | exact zor_i _ _ | exact zN _ | omega) (by first | assumption | exact zq_i _ | exact zand_i _ _ | exact zor_i _ _ | exact zN _ | omega) (by exact hW) (by exact fun t a c => by omega) (Nat.lt_succ_self _)
                    exact L129 _ _ _ (by exact hs) (by first | assumption | exact zq_i _ | exact zand_i _ _ | exact zor_i _ _ | exact zN _ | omega) (by first | assumption | exact zq_i _ | exact zand_i _ _ | exact zor_i _ _ | exact zN _ | omega) (by exact fun t a c => hW t a (by omega)) (Nat.lt_succ_self _)
                  · refine zT.aload_n 0 dX13_brown_103 rfl rfl ?_
                    refine zT.getF dX13_brown_104 fX13_113 rfl (zMod.k hb) (j := 54) (by decide) rfl (zMod.f1054 hb) ?_
                    refine zT.iload 5 dX13_brown_107 rfl ?_
                    refine zT.iload 5 dX13_brown_109 rfl ?_
                    refine zT.if_ne (tgt := 118) dX13_brown_111 (by decide) (by first | assumption | exact zq_i _ | exact zand_i _ _ | exact zor_i _ _ | exact zN _ | omega) (fun c111 => ?_) (fun c111 => ?_)
                    · refine zT.lconst dX13_brown_118 ?_
                      show zT G _ _ _ _ (zJ 0 :: _) _ _ _ _ _ _
                      refine zT.last dX13_brown_119 (zMod.a1054 hb) (by first | assumption | exact zq_i _ | exact zand_i _ _ | exact zor_i _ _ | exact zN _ | omega) (by rw [(zMod.n1054 hb)]; first | assumption | exact zq_i _ | exact zand_i _ _ | exact zor_i _ _ | exact zN _ | omega) (by first | assumption | exact zq_i _ | exact zand_i _ _ | exact zor_i _ _ | exact zN _ | omega) ?_
                      obtain ⟨m6, em6⟩ : ∃ z, z = zup mA (b + 33) k 0 := ⟨_, rfl⟩
                      rw [← em6]
                      refine zT.iinc 5 dX13_brown_120 rfl (by decide) (zpre1 rfl (zcI _)) ?_
                      show zT G _ _ _ [zR b, zI mm, zI p, zI (A 0 1002), zI g, zI (k + 1), zU, zU, zU] _ _ _ _ _ _ _
                      refine zT.goto (tgt := 95) dX13_brown_123 (by decide) ?_
                      exact ih95 _ _ (by rw [em6]; exact hs.up (by omega) (by unfold zUw; omega)) (by omega) (by omega) (by
                          exact fun t a c => by
                            by_cases q : t = k
                            · rw [q, em6, zup_at]
                              show _ = if k = 0 then 1 else 0
                              first | rw [if_pos (by omega)] | rw [if_neg (by omega)]
                            · rw [em6, zup_ne (by omega)]; exact hW t a (by omega)) (by omega)
                    · refine zT.lconst dX13_brown_114 ?_
                      show zT G _ _ _ _ (zJ 1 :: _) _ _ _ _ _ _
                      refine zT.goto (tgt := 119) dX13_brown_115 (by decide) ?_
                      refine zT.last dX13_brown_119 (zMod.a1054 hb) (by first | assumption | exact zq_i _ | exact zand_i _ _ | exact zor_i _ _ | exact zN _ | omega) (by rw [(zMod.n1054 hb)]; first | assumption | exact zq_i _ | exact zand_i _ _ | exact zor_i _ _ | exact zN _ | omega) (by first | assumption | exact zq_i _ | exact zand_i _ _ | exact zor_i _ _ | exact zN _ | omega) ?_
                      obtain ⟨m7, em7⟩ : ∃ z, z = zup mA (b + 33) k 1 := ⟨_, rfl⟩
                      rw [← em7]
                      refine zT.iinc 5 dX13_brown_120 rfl (by decide) (zpre1 rfl (zcI _)) ?_
                      show zT G _ _ _ [zR b, zI mm, zI p, zI (A 0 1002), zI g, zI (k + 1), zU, zU, zU] _ _ _ _ _ _ _
                      refine zT.goto (tgt := 95) dX13_brown_123 (by decide) ?_
                      exact ih95 _ _ (by rw [em7]; exact hs.up (by omega) (by unfold zUw; omega)) (by omega) (by omega) (by
                          exact fun t a c => by
                            by_cases q : t = k
                            · rw [q, em7, zup_at]
                              show _ = if k = 0 then 1 else 0
                              first | rw [if_pos (by omega)] | rw [if_neg (by omega)]
                            · rw [em7, zup_ne (by omega)]; exact hW t a (by omega)) (by omega)
              exact L95 _ _ _ (by exact zSc.rf) (by first | assumption | exact zq_i _ | exact zand_i _ _ | exact zor_i _ _ | exact zN _ | omega) (by first | assumption | exact zq_i _ | exact zand_i _ _ | exact zor_i _ _ | exact zN _ | omega) (by exact fun t a c => by omega) (Nat.lt_succ_self _)
            · have ht9 : m (b + 1) s = A 1 s := hA 1 s (by omega) (by omega)
              have hvs := hv9 s s0 (by omega)
              refine zT.aload_n 0 dX13_brown_54 rfl rfl ?_
              refine zT.getF dX13_brown_55 fX13_7 rfl (zMod.k hb) (j := 1) (by decide) rfl (zMod.f1001 hb) ?_
              refine zT.iload 5 dX13_brown_58 rfl ?_
              refine zT.iald dX13_brown_60 (zMod.a1001 hb) (by first | assumption | exact zq_i _ | exact zand_i _ _ | exact zor_i _ _ | exact zN _ | omega) (by rw [(zMod.n1001 hb)]; first | assumption | exact zq_i _ | exact zand_i _ _ | exact zor_i _ _ | exact zN _ | omega) (fun z60 => ?_)
              have r60 : m2 (b + 1) s = m (b + 1) s := by rw [em2, zup_ne (by omega), em1, zup_ne (by omega)]
              rw [r60] at z60 ⊢
              rw [ht9]
              show zT G _ _ _ _ [zI (A 1 s)] _ _ _ _ _ _
              refine zT.iconst dX13_brown_61 ?_
              refine zT.ic_le (tgt := 69) dX13_brown_62 (by decide) (by first | assumption | exact zq_i _ | exact zand_i _ _ | exact zor_i _ _ | exact zN _ | omega) (by first | assumption | exact zq_i _ | exact zand_i _ _ | exact zor_i _ _ | exact zN _ | omega) (fun c62 => ?_) (fun c62 => ?_)
              · refine zT.iload 4 dX13_brown_69 rfl ?_
                refine zT.aload_n 0 dX13_brown_71 rfl rfl ?_
                refine zT.getF dX13_brown_72 fX13_7 rfl (zMod.k hb) (j := 1) (by decide) rfl (zMod.f1001 hb) ?_
                refine zT.iload 5 dX13_brown_75 rfl ?_
                refine zT.iald dX13_brown_77 (zMod.a1001 hb) (by first | assumption | exact zq_i _ | exact zand_i _ _ | exact zor_i _ _ | exact zN _ | omega) (by rw [(zMod.n1001 hb)]; first | assumption | exact zq_i _ | exact zand_i _ _ | exact zor_i _ _ | exact zN _ | omega) (fun z77 => ?_)
                have r77 : m2 (b + 1) s = m (b + 1) s := by rw [em2, zup_ne (by omega), em1, zup_ne (by omega)]
                rw [r77] at z77 ⊢
                rw [ht9]
                show zT G _ _ _ _ [zI (A 1 s), zI g] _ _ _ _ _ _
                refine zT.iconst dX13_brown_78 ?_
                refine zT.iload 5 dX13_brown_79 rfl ?_
                refine zT.imul dX13_brown_81 ?_
                refine zT.ishl dX13_brown_82 (by first | assumption | exact zq_i _ | exact zand_i _ _ | exact zor_i _ _ | exact zN _ | omega) (by first | assumption | exact zq_i _ | exact zand_i _ _ | exact zor_i _ _ | exact zN _ | omega) ?_
                refine zT.ior dX13_brown_83 ?_
                refine zT.istore 4 dX13_brown_84 (by decide) (zpre1 rfl (zcI _)) ?_
                show zT G _ _ _ [zR b, zI mm, zI p, zI (A 0 1002), zI (zor g ((A 1 s) * 2 ^ (2 * s).toNat)), zI s, zU, zU, zU] _ _ _ _ _ _ _
                refine zT.iinc 5 dX13_brown_86 rfl (by decide) (zpre1 rfl (zcI _)) ?_
                show zT G _ _ _ [zR b, zI mm, zI p, zI (A 0 1002), zI (zor g ((A 1 s) * 2 ^ (2 * s).toNat)), zI (s + 1), zU, zU, zU] _ _ _ _ _ _ _
                refine zT.goto (tgt := 48) dX13_brown_89 (by decide) ?_
                exact ih48 _ _ (by first | assumption | exact zq_i _ | exact zand_i _ _ | exact zor_i _ _ | exact zN _ | omega) (by first | assumption | exact zq_i _ | exact zand_i _ _ | exact zor_i _ _ | exact zN _ | omega) (by rw [hg, ← fTd_s s0]) (by exact zal_s hT (by omega)) (by omega)
              · refine zT.ldc2 (-1) q2042 (by decide +kernel) dX13_brown_65 ?_
                refine zT.lret dX13_brown_68 rfl ?_
                rw [eQ9]
                exact ⟨by unfold fBr; rw [zite_f (fun z => by have := z.2 s s0 (by omega); omega)], rfl, hI2, hE2⟩
        exact L48 _ _ _ (by first | assumption | exact zq_i _ | exact zand_i _ _ | exact zor_i _ _ | exact zN _ | omega) (by first | assumption | exact zq_i _ | exact zand_i _ _ | exact zor_i _ _ | exact zN _ | omega) (by rfl) (by exact zal_0) (Nat.lt_succ_self _)
      · refine zT.ldc2 (-1) q2042 (by decide +kernel) dX13_brown_38 ?_
        refine zT.lret dX13_brown_41 rfl ?_
        rw [eQ9]
        exact ⟨by unfold fBr; rw [zite_f (fun z => by have := z.1; omega)], rfl, hI2, hE2⟩

