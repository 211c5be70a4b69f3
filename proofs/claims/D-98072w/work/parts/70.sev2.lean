/-! PanSlicesModel.several (written by gen/m_sev.py) -/
theorem aKT {A : zMm} {v : Int} : aK (zup A 0 1000 v 0 1023) (zup A 0 1000 v 2) = aK (A 0 1023) (A 2) := by rw [zup_nj (by decide), zup_fn (by decide)]
theorem vBgT {A : zMm} {v : Int} (h : vBg (A 0 1023) (A 2)) : vBg (zup A 0 1000 v 0 1023) (zup A 0 1000 v 2) := by rw [zup_nj (by decide), zup_fn (by decide)]; exact h
theorem C_X13_several {G : zG} {S : zS} {m : zMm} {b : Int} {A : zMm} (hb : zMod S b) (hA : yEq m b A) (hV : aVd A)  : zC G mX13_several 3 0 0 [zR b] S m (yPo S m b (some (zI (if (aK (A 0 1023) (A 2)) 5 = 0 then -1 else fCut (aK (A 0 1023) (A 2))))) (if (aK (A 0 1023) (A 2)) 5 = 0 then (uLay (zup A 0 1000 0)) else svOut (fCut (aK (A 0 1023) (A 2))) (aK (A 0 1023) (A 2)) (2 * (aK (A 0 1023) (A 2)) 5).toNat 0 (uNil (uSnap (uLay (zup A 0 1000 0)))) 0)) zNX := by
  have ym := hA.R hV
  have nm := ym.n
  have sm := ym.s
  have rm := ym.r
  have hk := hV.ki.1
  have hk0 := hk.1
  have hp0 := hV.pl.1
  have hp1 := hV.pl.2.1
  have hsn := hA.at (j := 1022)
  have hsv := hV.un.1
  have hK0 : aK ((uSnap (uLay (zup A 0 1000 0))) 0 1023) ((uSnap (uLay (zup A 0 1000 0))) 2) = (aK (A 0 1023) (A 2)) := (uSL_K (vBgT hV.bg)).trans aKT
  have hA0 : (uSnap (uLay (zup A 0 1000 0))) 0 1023 = 1 := uSL_b (vBgT hV.bg)
  refine zC.of [zR b, zU, zU, zU, zU, zU, zU] (by decide) rfl (zEn1 (zcR _) (zEn0 (by simp))) rfl ?_
  refine zT.rng hb.a1014 (fun zN => ?_)
  obtain ⟨Q9, eQ9⟩ : ∃ z : zQt, z = (yPo S m b (some (zI (if (aK (A 0 1023) (A 2)) 5 = 0 then -1 else fCut (aK (A 0 1023) (A 2))))) (if (aK (A 0 1023) (A 2)) 5 = 0 then (uLay (zup A 0 1000 0)) else svOut (fCut (aK (A 0 1023) (A 2))) (aK (A 0 1023) (A 2)) (2 * (aK (A 0 1023) (A 2)) 5).toNat 0 (uNil (uSnap (uLay (zup A 0 1000 0)))) 0)) := ⟨_, rfl⟩
  rw [← eQ9]
  refine zT.aload_n 0 dX13_several_0 rfl rfl ?_
  refine zT.iconst dX13_several_1 ?_
  refine zT.putI dX13_several_2 fX13_122 zs_1000 rfl (zMod.k hb) (j := 0) (by decide) rfl (by first | assumption | exact zq_i _ | exact zand_i _ _ | exact zor_i _ _ | exact zN _ | omega) ?_
  obtain ⟨m1, em1⟩ : ∃ z, z = zup m b 1000 0 := ⟨_, rfl⟩
  rw [← em1]
  have ym1 : yR m1 b A := by rw [em1]; exact ym.up (by omega)
  have nm1 := ym1.n
  have sm1 := ym1.s
  have rm1 := ym1.r
  refine zT.aload_n 0 dX13_several_5 rfl rfl ?_
  refine zT.callV (M' := mX13_lay) (b := b) [] [] dX13_several_6 kX13_202 rfl rfl (ci := 10) (r := (RX13, TX13, 62)) rfl (zMod.k hb) (C_X13_lay hb) (by decide) (k' := 0) (n' := 0) (by omega) (by omega) (by decide) (zdk (v := none) ?_) (fun _ _ _ _ h => h.elim)
  show zT G _ _ _ _ [] _ _ _ _ _ _
  obtain ⟨m2, em2⟩ : ∃ z, z = ylaid m1 b := ⟨_, rfl⟩
  rw [← em2]
  have ym2 : yL m2 b A := by rw [em2]; exact hA.L2 hV (fun j => by rw [em1, zup_ne (by omega)]) (by rw [em1, zup_ne (by omega)])
  have nm2 := ym2.1.n
  have sm2 := ym2.1.s
  have rm2 := ym2.1.r
  refine zT.aload_n 0 dX13_several_9 rfl rfl ?_
  refine zT.callV (M' := mX13_slices) (b := b) [] [] dX13_several_10 kX13_271 rfl rfl (ci := 10) (r := (RX13, TX13, 62)) rfl (zMod.k hb) (C_X13_slices hb) (by decide) (k' := 0) (n' := 0) (by omega) (by omega) (by decide) (zdk (v := some (zI (m2 (b + 2) (5)))) ?_) (fun _ _ _ _ h => h.elim)
  show zT G _ _ _ _ [zI (m2 (b + 2) (5))] _ _ _ _ _ _
  refine zT.if_ne (tgt := 18) dX13_several_13 (by decide) (by first | assumption | exact zq_i _ | exact zand_i _ _ | exact zor_i _ _ | exact zN _ | omega) (fun c13 => ?_) (fun c13 => ?_)
  · refine zT.aload_n 0 dX13_several_18 rfl rfl ?_
    refine zT.callV (M' := mX13_snap) (b := b) [] [] dX13_several_19 kX13_290 rfl rfl (ci := 10) (r := (RX13, TX13, 62)) rfl (zMod.k hb) (C_X13_snap hb (by rw [em2, ylaid_f (by decide), em1, zup_ne (by omega)]; omega) (by rw [em2, ylaid_f (by decide), em1, zup_ne (by omega)]; omega)) (by decide) (k' := 0) (n' := 0) (by omega) (by omega) (by decide) (zdk (v := none) ?_) (fun _ _ _ _ h => h.elim)
    show zT G _ _ _ _ [] _ _ _ _ _ _
    obtain ⟨m3, em3⟩ : ∃ z, z = ysnap m2 b := ⟨_, rfl⟩
    rw [← em3]
    have ym3 : yL m3 b A := ym2.row (fun j => by rw [em3]; exact ysnap_2)
    have nm3 := ym3.1.n
    have sm3 := ym3.1.s
    have rm3 := ym3.1.r
    refine zT.aload_n 0 dX13_several_22 rfl rfl ?_
    refine zT.getF dX13_several_23 fX13_13 rfl (zMod.k hb) (j := 14) (by decide) rfl (zMod.f1014 hb) ?_
    refine zT.bipush dX13_several_26 ?_
    refine zT.iconst dX13_several_28 ?_
    refine zT.iast dX13_several_29 (zMod.a1014 hb) (by first | assumption | exact zq_i _ | exact zand_i _ _ | exact zor_i _ _ | exact zN _ | omega) (by rw [(zMod.n1014 hb)]; first | assumption | exact zq_i _ | exact zand_i _ _ | exact zor_i _ _ | exact zN _ | omega) (by first | assumption | exact zq_i _ | exact zand_i _ _ | exact zor_i _ _ | exact zN _ | omega) ?_
    obtain ⟨m4, em4⟩ : ∃ z, z = zup m3 (b + 2) 58 0 := ⟨_, rfl⟩
    rw [← em4]
    have hE3 : yEw m3 b (uSnap (uLay (zup A 0 1000 0))) := by rw [em3, em2, em1]; exact hA.up0.lay.snap.w
    have hE4 : yEw m4 b (uNil (uSnap (uLay (zup A 0 1000 0)))) := by rw [em4]; exact hE3.up
    have hI4 : zIn b m m4 := by rw [em4, em3, em2, em1]; exact (zIn.rf.up0.lay.snap).up (by omega) (by omega)
    have hk4 : zMK m4 b (aK (A 0 1023) (A 2)) := hE4.K aPl.rf.nil hA0 hK0
    have r4 : zRow m4 b := hE4.row aPl.rf.nil hA0 hK0 hk (by rw [uNil_n]; exact ⟨by omega, by omega, fun k a b => by omega⟩)
    have k45 := hk4 5 (by omega) (by omega)
    have k40 := hk4 0 (by omega) (by omega)
    have hTb := fCut_b hk (by omega)
    have hAb := fAll_b hk (k := (aK (A 0 1023) (A 2)) 5) (by omega) (by omega)
    have hLb := fLng_b hk (k := (aK (A 0 1023) (A 2)) 5) (by omega)
    have hdb : 0 ≤ (fAll (aK (A 0 1023) (A 2)) ((aK (A 0 1023) (A 2)) 5) + (aK (A 0 1023) (A 2)) 0 - 1) / (aK (A 0 1023) (A 2)) 0 ∧ (fAll (aK (A 0 1023) (A 2)) ((aK (A 0 1023) (A 2)) 5) + (aK (A 0 1023) (A 2)) 0 - 1) / (aK (A 0 1023) (A 2)) 0 ≤ fAll (aK (A 0 1023) (A 2)) ((aK (A 0 1023) (A 2)) 5) + (aK (A 0 1023) (A 2)) 0 - 1 := ⟨Int.ediv_nonneg (by omega) (by omega), Int.ediv_le_self _ (by omega)⟩
    refine zT.aload_n 0 dX13_several_30 rfl rfl ?_
    refine zT.callV (M' := mX13_longest) (b := b) [] [] dX13_several_31 kX13_340 rfl rfl (ci := 10) (r := (RX13, TX13, 62)) rfl (zMod.k hb) (C_X13_longest hb r4) (by decide) (k' := 0) (n' := 0) (by omega) (by omega) (by decide) (zdk (v := some (zI (ylng m4 b (m4 (b + 2) 5)))) ?_) (fun _ _ _ _ h => h.elim)
    show zT G _ _ _ _ [zI (ylng m4 b (m4 (b + 2) 5))] _ _ _ _ _ _
    rw [k45, ylng_k hk4 (by omega)]
    show zT G _ _ _ _ [zI (fLng (aK (A 0 1023) (A 2)) ((aK (A 0 1023) (A 2)) 5))] _ _ _ _ _ _
    refine zT.aload_n 0 dX13_several_34 rfl rfl ?_
    refine zT.callV (M' := mX13_allMinutes) (b := b) [] [zI (fLng (aK (A 0 1023) (A 2)) ((aK (A 0 1023) (A 2)) 5))] dX13_several_35 kX13_343 rfl rfl (ci := 10) (r := (RX13, TX13, 62)) rfl (zMod.k hb) (C_X13_allMinutes hb r4) (by decide) (k' := 0) (n' := 0) (by omega) (by omega) (by simp only [List.map, zcI, zcJ, zcR, List.sum_cons, List.sum_nil]; decide) (zdk (v := some (zI (ysum m4 b (m4 (b + 2) 5)))) ?_) (fun _ _ _ _ h => h.elim)
    show zT G _ _ _ _ [zI (ysum m4 b (m4 (b + 2) 5)), zI (fLng (aK (A 0 1023) (A 2)) ((aK (A 0 1023) (A 2)) 5))] _ _ _ _ _ _
    rw [k45, ysum_k hk4 (by omega)]
    show zT G _ _ _ _ [zI (fAll (aK (A 0 1023) (A 2)) ((aK (A 0 1023) (A 2)) 5)), zI (fLng (aK (A 0 1023) (A 2)) ((aK (A 0 1023) (A 2)) 5))] _ _ _ _ _ _
    refine zT.aload_n 0 dX13_several_38 rfl rfl ?_
    refine zT.getF dX13_several_39 fX13_13 rfl (zMod.k hb) (j := 14) (by decide) rfl (zMod.f1014 hb) ?_
    refine zT.iconst dX13_several_42 ?_
    refine zT.iald dX13_several_43 (zMod.a1014 hb) (by first | assumption | exact zq_i _ | exact zand_i _ _ | exact zor_i _ _ | exact zN _ | omega) (by rw [(zMod.n1014 hb)]; first | assumption | exact zq_i _ | exact zand_i _ _ | exact zor_i _ _ | exact zN _ | omega) (fun z43 => ?_)
    have r43 : m4 (b + 2) 0 = m3 (b + 2) 0 := by rw [em4, zup_ne (by omega)]
    rw [r43] at z43 ⊢
    have k43 : m3 (b + 2) 0 = (aK (A 0 1023) (A 2)) 0 := by have q := k40; rw [em4, zup_ne (by omega)] at q; exact q
    rw [k43]
    show zT G _ _ _ _ [zI ((aK (A 0 1023) (A 2)) 0), zI (fAll (aK (A 0 1023) (A 2)) ((aK (A 0 1023) (A 2)) 5)), zI (fLng (aK (A 0 1023) (A 2)) ((aK (A 0 1023) (A 2)) 5))] _ _ _ _ _ _
    refine zT.callS (M' := mX13_up) [zI (fAll (aK (A 0 1023) (A 2)) ((aK (A 0 1023) (A 2)) 5)), zI ((aK (A 0 1023) (A 2)) 0)] [zI (fLng (aK (A 0 1023) (A 2)) ((aK (A 0 1023) (A 2)) 5))] dX13_several_44 kX13_346 rfl rfl (C_X13_up (by omega) (by omega) (by omega) (by omega)) (by decide) (k' := 0) (n' := 0) (by omega) (by omega) (by simp only [List.map, zcI, zcJ, zcR, List.sum_cons, List.sum_nil]; decide) (zdk (v := some (zI (((fAll (aK (A 0 1023) (A 2)) ((aK (A 0 1023) (A 2)) 5)) + ((aK (A 0 1023) (A 2)) 0) - 1) / ((aK (A 0 1023) (A 2)) 0)))) ?_) (fun _ _ _ _ h => h.elim)
    show zT G _ _ _ _ [zI (((fAll (aK (A 0 1023) (A 2)) ((aK (A 0 1023) (A 2)) 5)) + ((aK (A 0 1023) (A 2)) 0) - 1) / ((aK (A 0 1023) (A 2)) 0)), zI (fLng (aK (A 0 1023) (A 2)) ((aK (A 0 1023) (A 2)) 5))] _ _ _ _ _ _
    refine zT.callS (M' := mX13_most) [zI (fLng (aK (A 0 1023) (A 2)) ((aK (A 0 1023) (A 2)) 5)), zI (((fAll (aK (A 0 1023) (A 2)) ((aK (A 0 1023) (A 2)) 5)) + ((aK (A 0 1023) (A 2)) 0) - 1) / ((aK (A 0 1023) (A 2)) 0))] [] dX13_several_47 kX13_318 rfl rfl (C_X13_most (by omega) (by omega)) (by decide) (k' := 0) (n' := 0) (by omega) (by omega) (by decide) (zdk (v := some (zI (max (fLng (aK (A 0 1023) (A 2)) ((aK (A 0 1023) (A 2)) 5)) (((fAll (aK (A 0 1023) (A 2)) ((aK (A 0 1023) (A 2)) 5)) + ((aK (A 0 1023) (A 2)) 0) - 1) / ((aK (A 0 1023) (A 2)) 0))))) ?_) (fun _ _ _ _ h => h.elim)
    show zT G _ _ _ _ [zI (max (fLng (aK (A 0 1023) (A 2)) ((aK (A 0 1023) (A 2)) 5)) (((fAll (aK (A 0 1023) (A 2)) ((aK (A 0 1023) (A 2)) 5)) + ((aK (A 0 1023) (A 2)) 0) - 1) / ((aK (A 0 1023) (A 2)) 0)))] _ _ _ _ _ _
    obtain ⟨T, hT0⟩ : ∃ z, z = fCut (aK (A 0 1023) (A 2)) := ⟨_, rfl⟩
    rw [← hT0] at hTb
    rw [show max (fLng (aK (A 0 1023) (A 2)) ((aK (A 0 1023) (A 2)) 5)) ((fAll (aK (A 0 1023) (A 2)) ((aK (A 0 1023) (A 2)) 5) + (aK (A 0 1023) (A 2)) 0 - 1) / (aK (A 0 1023) (A 2)) 0) = T from hT0.symm]
    refine zT.istore_n 1 dX13_several_50 rfl (by decide) (zpre1 rfl (zcR _)) ?_
    show zT G _ _ _ [zR b, zI T, zU, zU, zU, zU, zU] _ _ _ _ _ _ _
    refine zT.iconst dX13_several_51 ?_
    refine zT.istore_n 2 dX13_several_52 rfl (by decide) (zpre1 rfl (zcI _)) ?_
    show zT G _ _ _ [zR b, zI T, zI 0, zU, zU, zU, zU] _ _ _ _ _ _ _
    obtain ⟨R, hR9⟩ : ∃ z, z = svOut T (aK (A 0 1023) (A 2)) (2 * (aK (A 0 1023) (A 2)) 5).toNat 0 (uNil (uSnap (uLay (zup A 0 1000 0)))) 0 := ⟨_, rfl⟩
    have hRe : svOut (fCut (aK (A 0 1023) (A 2))) (aK (A 0 1023) (A 2)) (2 * (aK (A 0 1023) (A 2)) 5).toNat 0 (uNil (uSnap (uLay (zup A 0 1000 0)))) 0 = R := by rw [hR9, hT0]
    have hR9 := hR9.symm
    refine zT.iconst dX13_several_53 ?_
    refine zT.istore_n 3 dX13_several_54 rfl (by decide) (zpre1 rfl (zcI _)) ?_
    show zT G _ _ _ [zR b, zI T, zI 0, zI 0, zU, zU, zU] _ _ _ _ _ _ _
    have L55 : ∀ (N : Nat) (mA : zMm) (B : zMm) (k : Int) (a : Int) (fo : Nat), (yEw mA b B) → (zIn b m mA) → (aPl (uSnap (uLay (zup A 0 1000 0))) B) → (0 ≤ k) → (k ≤ 2 * (aK (A 0 1023) (A 2)) 5) → (a = zs (fL0 (aK (A 0 1023) (A 2))) k) → ((fo : Int) = 2 * (aK (A 0 1023) (A 2)) 5 - k) → (svOut T (aK (A 0 1023) (A 2)) fo k B a = R) → (0 ≤ B 2 58 ∧ B 2 58 ≤ a) → fo < N → zT G mX13_several 3 55 [zR b, zI T, zI a, zI k, zU, zU, zU] [] S mA 0 0 Q9 zNX := by
      intro N
      induction N with
      | zero => intro mA B k a fo hE hI hP k0 k1 ha hfo hT hn9 hN; exact absurd hN (Nat.not_lt_zero _)
      | succ N ih55 =>
        intro mA B k a fo hE hI hP k0 k1 ha hfo hT hn9 hN
        have hk9 : zMK mA b (aK (A 0 1023) (A 2)) := hE.K hP hA0 hK0
        have k05 := hk9 5 (by omega) (by omega)
        have k00 := hk9 0 (by omega) (by omega)
        have kn9 := hE.n
        refine zT.iload_n 3 dX13_several_55 rfl rfl ?_
        refine zT.iconst dX13_several_56 ?_
        refine zT.aload_n 0 dX13_several_57 rfl rfl ?_
        refine zT.callV (M' := mX13_slices) (b := b) [] [zI 2, zI k] dX13_several_58 kX13_271 rfl rfl (ci := 10) (r := (RX13, TX13, 62)) rfl (zMod.k hb) (C_X13_slices hb) (by decide) (k' := 0) (n' := 0) (by omega) (by omega) (by simp only [List.map, zcI, zcJ, zcR, List.sum_cons, List.sum_nil]; decide) (zdk (v := some (zI (mA (b + 2) (5)))) ?_) (fun _ _ _ _ h => h.elim)
        show zT G _ _ _ _ [zI (mA (b + 2) (5)), zI 2, zI k] _ _ _ _ _ _
        refine zT.imul dX13_several_61 ?_
        refine zT.ic_ge (tgt := 144) dX13_several_62 (by decide) (by first | assumption | exact zq_i _ | exact zand_i _ _ | exact zor_i _ _ | exact zN _ | omega) (by first | assumption | exact zq_i _ | exact zand_i _ _ | exact zor_i _ _ | exact zN _ | omega) (fun c62 => ?_) (fun c62 => ?_)
        · refine zT.iload_n 1 dX13_several_144 rfl rfl ?_
          refine zT.iret dX13_several_145 rfl ?_
          rw [eQ9]
          have hz : fo = 0 := by omega
          subst hz
          have hT : B = R := hT
          subst hT
          rw [hRe]
          exact ⟨by rw [if_neg (by omega), hT0], rfl, hI, by rw [if_neg (by omega)]; exact hE⟩
        · obtain ⟨g, rfl⟩ : ∃ g, fo = g + 1 := ⟨fo - 1, by omega⟩
          have hmi : mA (b + 2) (8 + 3 * (k / 2) + k % 2) = fL0 (aK (A 0 1023) (A 2)) k := hk9 _ (by omega) (by omega)
          have hlb := fL0_b hk k0 (by omega)
          have hmn : zs (fL0 (aK (A 0 1023) (A 2))) (k + 1) ≤ zs (fL0 (aK (A 0 1023) (A 2))) (2 * (aK (A 0 1023) (A 2)) 5) := zs_le (by omega) (by omega) (fun j a b => (fL0_b hk a (by omega)).1)
          rw [fL0_s (by omega)] at hmn
          have hfb := fAll_b hk (k := (aK (A 0 1023) (A 2)) 5) (by omega) (by omega)
          have hzn := zs_b (f := fL0 (aK (A 0 1023) (A 2))) (k := k) (B := 20) k0 (fun j a b => fL0_b hk a (by omega))
          obtain ⟨RI, hRI⟩ : ∃ z, z = svIn T k 20 B a (fL0 (aK (A 0 1023) (A 2)) k) := ⟨_, rfl⟩
          have hRI := hRI.symm
          refine zT.aload_n 0 dX13_several_65 rfl rfl ?_
          refine zT.iload_n 3 dX13_several_66 rfl rfl ?_
          refine zT.iconst dX13_several_67 ?_
          refine zT.idiv dX13_several_68 (by first | assumption | exact zq_i _ | exact zand_i _ _ | exact zor_i _ _ | exact zN _ | omega) (by first | assumption | exact zq_i _ | exact zand_i _ _ | exact zor_i _ _ | exact zN _ | omega) (by first | assumption | exact zq_i _ | exact zand_i _ _ | exact zor_i _ _ | exact zN _ | omega) (by first | assumption | exact zq_i _ | exact zand_i _ _ | exact zor_i _ _ | exact zN _ | omega) ?_
          refine zT.iload_n 3 dX13_several_69 rfl rfl ?_
          refine zT.iconst dX13_several_70 ?_
          refine zT.irem dX13_several_71 (by first | assumption | exact zq_i _ | exact zand_i _ _ | exact zor_i _ _ | exact zN _ | omega) (by first | assumption | exact zq_i _ | exact zand_i _ _ | exact zor_i _ _ | exact zN _ | omega) (by first | assumption | exact zq_i _ | exact zand_i _ _ | exact zor_i _ _ | exact zN _ | omega) (by first | assumption | exact zq_i _ | exact zand_i _ _ | exact zor_i _ _ | exact zN _ | omega) ?_
          refine zT.callV (M' := mX13_needs) (b := b) [zI (k / 2), zI (k % 2)] [] dX13_several_72 kX13_309 rfl rfl (ci := 10) (r := (RX13, TX13, 62)) rfl (zMod.k hb) (C_X13_needs hb (by first | assumption | exact zq_i _ | exact zand_i _ _ | exact zor_i _ _ | exact zN _ | omega) (by first | assumption | exact zq_i _ | exact zand_i _ _ | exact zor_i _ _ | exact zN _ | omega)) (by decide) (k' := 0) (n' := 0) (by omega) (by omega) (by decide) (zdk (v := some (zI (mA (b + 2) (8 + 3 * (k / 2) + (k % 2))))) ?_) (fun _ _ _ _ h => h.elim)
          show zT G _ _ _ _ [zI (mA (b + 2) (8 + 3 * (k / 2) + (k % 2)))] _ _ _ _ _ _
          rw [hmi]
          show zT G _ _ _ _ [zI (fL0 (aK (A 0 1023) (A 2)) k)] _ _ _ _ _ _
          refine zT.istore 4 dX13_several_75 (by decide) (zpre1 rfl (zcI _)) ?_
          show zT G _ _ _ [zR b, zI T, zI a, zI k, zI (fL0 (aK (A 0 1023) (A 2)) k), zU, zU] _ _ _ _ _ _ _
          have L77 : ∀ (N : Nat) (mB : zMm) (C : zMm) (f : Nat) (d : Int) (l : Int), (yEw mB b C) → (zIn b m mB) → (aPl (uSnap (uLay (zup A 0 1000 0))) C) → (0 ≤ l) → (l ≤ f) → (f ≤ 20) → (0 ≤ d) → (d + l = zs (fL0 (aK (A 0 1023) (A 2))) (k + 1)) → (svIn T k f C d l = RI) → (0 ≤ C 2 58 ∧ C 2 58 ≤ d) → f < N → zT G mX13_several 3 77 [zR b, zI T, zI d, zI k, zI l, zU, zU] [] S mB 0 0 Q9 zNX := by
            intro N
            induction N with
            | zero => intro mB C f d l hE hI hP l0 l1 f20 ha1 ha2 hT2 hn9 hN; exact absurd hN (Nat.not_lt_zero _)
            | succ N ih77 =>
              intro mB C f d l hE hI hP l0 l1 f20 ha1 ha2 hT2 hn9 hN
              have hk9 : zMK mB b (aK (A 0 1023) (A 2)) := hE.K hP hA0 hK0
              have k05 := hk9 5 (by omega) (by omega)
              have k00 := hk9 0 (by omega) (by omega)
              have kn9 := hE.n
              refine zT.iload 4 dX13_several_77 rfl ?_
              refine zT.if_le (tgt := 138) dX13_several_79 (by decide) (by first | assumption | exact zq_i _ | exact zand_i _ _ | exact zor_i _ _ | exact zN _ | omega) (fun c79 => ?_) (fun c79 => ?_)
              · refine zT.iinc 3 dX13_several_138 rfl (by decide) (zpre1 rfl (zcI _)) ?_
                show zT G _ _ _ [zR b, zI T, zI d, zI (k + 1), zI l, zU, zU] _ _ _ _ _ _ _
                refine zT.goto (tgt := 55) dX13_several_141 (by decide) ?_
                refine zT.loc (V' := [zR b, zI T, zI d, zI (k + 1), zU, zU, zU]) ?_ ⟨Or.inr rfl, Or.inr rfl, Or.inr rfl, Or.inr rfl, Or.inl rfl, Or.inr rfl, Or.inr rfl, trivial⟩
                exact ih55 _ _ _ _ g (by exact hE) (by exact hI) (by exact hP) (by first | assumption | exact zq_i _ | exact zand_i _ _ | exact zor_i _ _ | exact zN _ | omega) (by first | assumption | exact zq_i _ | exact zand_i _ _ | exact zor_i _ _ | exact zN _ | omega) (by omega) (by omega) (by
                    rw [← hT]
                    show _ = svOut T (aK (A 0 1023) (A 2)) g (k + 1) (svIn T k 20 B a (fL0 (aK (A 0 1023) (A 2)) k)).1 (svIn T k 20 B a (fL0 (aK (A 0 1023) (A 2)) k)).2
                    rw [hRI, ← hT2, svIn_0 (by omega)]) (by exact hn9) (by omega)
              · obtain ⟨f, rfl⟩ : ∃ g, f = g + 1 := ⟨f - 1, by omega⟩
                have hsv := svFct (T := T) (p := (aK (A 0 1023) (A 2)) 0) (a := d) hTb.1 hTb.2.2 ha1 (by omega)
                have hT9 := hT2
                rw [svIn_1 (by omega)] at hT9
                refine zT.iload_n 1 dX13_several_82 rfl rfl ?_
                refine zT.iload_n 2 dX13_several_83 rfl rfl ?_
                refine zT.iload_n 1 dX13_several_84 rfl rfl ?_
                refine zT.irem dX13_several_85 (by first | assumption | exact zq_i _ | exact zand_i _ _ | exact zor_i _ _ | exact zN _ | omega) (by first | assumption | exact zq_i _ | exact zand_i _ _ | exact zor_i _ _ | exact zN _ | omega) (by first | assumption | exact zq_i _ | exact zand_i _ _ | exact zor_i _ _ | exact zN _ | omega) (by first | assumption | exact zq_i _ | exact zand_i _ _ | exact zor_i _ _ | exact zN _ | omega) ?_
                refine zT.isub dX13_several_86 ?_
                refine zT.istore 5 dX13_several_87 (by decide) (zpre1 rfl (zcI _)) ?_
                show zT G _ _ _ [zR b, zI T, zI d, zI k, zI l, zI (T - (d % T)), zU] _ _ _ _ _ _ _
                refine zT.iload 4 dX13_several_89 rfl ?_
                refine zT.iload 5 dX13_several_91 rfl ?_
                refine zT.ic_ge (tgt := 101) dX13_several_93 (by decide) (by first | assumption | exact zq_i _ | exact zand_i _ _ | exact zor_i _ _ | exact zN _ | omega) (by first | assumption | exact zq_i _ | exact zand_i _ _ | exact zor_i _ _ | exact zN _ | omega) (fun c93 => ?_) (fun c93 => ?_)
                · refine zT.iload 5 dX13_several_101 rfl ?_
                  refine zT.istore 6 dX13_several_103 (by decide) (zpre1 rfl (zcI _)) ?_
                  show zT G _ _ _ [zR b, zI T, zI d, zI k, zI l, zI (T - (d % T)), zI (T - (d % T))] _ _ _ _ _ _ _
                  rw [show min l (T - d % T) = T - (d % T) by omega] at hT9
                  refine zT.aload_n 0 dX13_several_105 rfl rfl ?_
                  refine zT.iload_n 3 dX13_several_106 rfl rfl ?_
                  refine zT.iconst dX13_several_107 ?_
                  refine zT.idiv dX13_several_108 (by first | assumption | exact zq_i _ | exact zand_i _ _ | exact zor_i _ _ | exact zN _ | omega) (by first | assumption | exact zq_i _ | exact zand_i _ _ | exact zor_i _ _ | exact zN _ | omega) (by first | assumption | exact zq_i _ | exact zand_i _ _ | exact zor_i _ _ | exact zN _ | omega) (by first | assumption | exact zq_i _ | exact zand_i _ _ | exact zor_i _ _ | exact zN _ | omega) ?_
                  refine zT.iload_n 3 dX13_several_109 rfl rfl ?_
                  refine zT.iconst dX13_several_110 ?_
                  refine zT.irem dX13_several_111 (by first | assumption | exact zq_i _ | exact zand_i _ _ | exact zor_i _ _ | exact zN _ | omega) (by first | assumption | exact zq_i _ | exact zand_i _ _ | exact zor_i _ _ | exact zN _ | omega) (by first | assumption | exact zq_i _ | exact zand_i _ _ | exact zor_i _ _ | exact zN _ | omega) (by first | assumption | exact zq_i _ | exact zand_i _ _ | exact zor_i _ _ | exact zN _ | omega) ?_
                  refine zT.iload_n 2 dX13_several_112 rfl rfl ?_
                  refine zT.iload_n 1 dX13_several_113 rfl rfl ?_
                  refine zT.irem dX13_several_114 (by first | assumption | exact zq_i _ | exact zand_i _ _ | exact zor_i _ _ | exact zN _ | omega) (by first | assumption | exact zq_i _ | exact zand_i _ _ | exact zor_i _ _ | exact zN _ | omega) (by first | assumption | exact zq_i _ | exact zand_i _ _ | exact zor_i _ _ | exact zN _ | omega) (by first | assumption | exact zq_i _ | exact zand_i _ _ | exact zor_i _ _ | exact zN _ | omega) ?_
                  refine zT.iload_n 2 dX13_several_115 rfl rfl ?_
                  refine zT.iload_n 1 dX13_several_116 rfl rfl ?_
                  refine zT.idiv dX13_several_117 (by first | assumption | exact zq_i _ | exact zand_i _ _ | exact zor_i _ _ | exact zN _ | omega) (by first | assumption | exact zq_i _ | exact zand_i _ _ | exact zor_i _ _ | exact zN _ | omega) (by first | assumption | exact zq_i _ | exact zand_i _ _ | exact zor_i _ _ | exact zN _ | omega) (by first | assumption | exact zq_i _ | exact zand_i _ _ | exact zor_i _ _ | exact zN _ | omega) ?_
                  refine zT.iload 6 dX13_several_118 rfl ?_
                  refine zT.callV (M' := mX13_lays) (b := b) [zI (k / 2), zI (k % 2), zI (d % T), zI (d / T), zI (T - (d % T))] [] dX13_several_120 kX13_293 rfl rfl (ci := 10) (r := (RX13, TX13, 62)) rfl (zMod.k hb) (C_X13_lays hb (by omega) (by omega) (by omega) (by omega) (by omega) (by omega) (by omega)) (by decide) (k' := 0) (n' := 0) (by omega) (by omega) (by decide) (zdk (v := none) ?_) (fun _ _ _ _ h => h.elim)
                  show zT G _ _ _ _ [] _ _ _ _ _ _
                  obtain ⟨m5, em5⟩ : ∃ z, z = ylay mB b (k / 2) (k % 2) (d % T) (d / T) (T - (d % T)) := ⟨_, rfl⟩
                  rw [← em5]
                  have hE2 : yEw m5 b (uGo C (k / 2) (k % 2) (d % T) (d / T) (T - (d % T))) := by rw [em5]; exact hE.go
                  have hI2 : zIn b m m5 := by rw [em5]; exact hI.go
                  have hP2 : aPl (uSnap (uLay (zup A 0 1000 0))) (uGo C (k / 2) (k % 2) (d % T) (d / T) (T - (d % T))) := hP.go (by omega) (by omega)
                  refine zT.iload_n 2 dX13_several_123 rfl rfl ?_
                  refine zT.iload 6 dX13_several_124 rfl ?_
                  refine zT.iadd dX13_several_126 ?_
                  refine zT.istore_n 2 dX13_several_127 rfl (by decide) (zpre1 rfl (zcI _)) ?_
                  show zT G _ _ _ [zR b, zI T, zI (d + (T - (d % T))), zI k, zI l, zI (T - (d % T)), zI (T - (d % T))] _ _ _ _ _ _ _
                  refine zT.iload 4 dX13_several_128 rfl ?_
                  refine zT.iload 6 dX13_several_130 rfl ?_
                  refine zT.isub dX13_several_132 ?_
                  refine zT.istore 4 dX13_several_133 (by decide) (zpre1 rfl (zcI _)) ?_
                  show zT G _ _ _ [zR b, zI T, zI (d + (T - (d % T))), zI k, zI (l - (T - (d % T))), zI (T - (d % T)), zI (T - (d % T))] _ _ _ _ _ _ _
                  refine zT.goto (tgt := 77) dX13_several_135 (by decide) ?_
                  refine zT.loc (V' := [zR b, zI T, zI (d + (T - (d % T))), zI k, zI (l - (T - (d % T))), zU, zU]) ?_ ⟨Or.inr rfl, Or.inr rfl, Or.inr rfl, Or.inr rfl, Or.inr rfl, Or.inl rfl, Or.inl rfl, trivial⟩
                  exact ih77 _ _ f _ _ (by exact hE2) (by exact hI2) (by exact hP2) (by omega) (by omega) (by omega) (by omega) (by omega) (by exact hT9) (by rw [uGo_n]; omega) (by omega)
                · refine zT.iload 4 dX13_several_96 rfl ?_
                  refine zT.goto (tgt := 103) dX13_several_98 (by decide) ?_
                  refine zT.istore 6 dX13_several_103 (by decide) (zpre1 rfl (zcI _)) ?_
                  show zT G _ _ _ [zR b, zI T, zI d, zI k, zI l, zI (T - (d % T)), zI l] _ _ _ _ _ _ _
                  rw [show min l (T - d % T) = l by omega] at hT9
                  refine zT.aload_n 0 dX13_several_105 rfl rfl ?_
                  refine zT.iload_n 3 dX13_several_106 rfl rfl ?_
                  refine zT.iconst dX13_several_107 ?_
                  refine zT.idiv dX13_several_108 (by first | assumption | exact zq_i _ | exact zand_i _ _ | exact zor_i _ _ | exact zN _ | omega) (by first | assumption | exact zq_i _ | exact zand_i _ _ | exact zor_i _ _ | exact zN _ | omega) (by first | assumption | exact zq_i _ | exact zand_i _ _ | exact zor_i _ _ | exact zN _ | omega) (by first | assumption | exact zq_i _ | exact zand_i _ _ | exact zor_i _ _ | exact zN _ | omega) ?_
                  refine zT.iload_n 3 dX13_several_109 rfl rfl ?_
                  refine zT.iconst dX13_several_110 ?_
                  refine zT.irem dX13_several_111 (by first | assumption | exact zq_i _ | exact zand_i _ _ | exact zor_i _ _ | exact zN _ | omega) (by first | assumption | exact zq_i _ | exact zand_i _ _ | exact zor_i _ _ | exact zN _ | omega) (by first | assumption | exact zq_i _ | exact zand_i _ _ | exact zor_i _ _ | exact zN _ | omega) (by first | assumption | exact zq_i _ | exact zand_i _ _ | exact zor_i _ _ | exact zN _ | omega) ?_
                  refine zT.iload_n 2 dX13_several_112 rfl rfl ?_
                  refine zT.iload_n 1 dX13_several_113 rfl rfl ?_
                  refine zT.irem dX13_several_114 (by first | assumption | exact zq_i _ | exact zand_i _ _ | exact zor_i _ _ | exact zN _ | omega) (by first | assumption | exact zq_i _ | exact zand_i _ _ | exact zor_i _ _ | exact zN _ | omega) (by first | assumption | exact zq_i _ | exact zand_i _ _ | exact zor_i _ _ | exact zN _ | omega) (by first | assumption | exact zq_i _ | exact zand_i _ _ | exact zor_i _ _ | exact zN _ | omega) ?_
                  refine zT.iload_n 2 dX13_several_115 rfl rfl ?_
                  refine zT.iload_n 1 dX13_several_116 rfl rfl ?_
                  refine zT.idiv dX13_several_117 (by first | assumption | exact zq_i _ | exact zand_i _ _ | exact zor_i _ _ | exact zN _ | omega) (by first | assumption | exact zq_i _ | exact zand_i _ _ | exact zor_i _ _ | exact zN _ | omega) (by first | assumption | exact zq_i _ | exact zand_i _ _ | exact zor_i _ _ | exact zN _ | omega) (by first | assumption | exact zq_i _ | exact zand_i _ _ | exact zor_i _ _ | exact zN _ | omega) ?_
                  refine zT.iload 6 dX13_several_118 rfl ?_
                  refine zT.callV (M' := mX13_lays) (b := b) [zI (k / 2), zI (k % 2), zI (d % T), zI (d / T), zI l] [] dX13_several_120 kX13_293 rfl rfl (ci := 10) (r := (RX13, TX13, 62)) rfl (zMod.k hb) (C_X13_lays hb (by omega) (by omega) (by omega) (by omega) (by omega) (by omega) (by omega)) (by decide) (k' := 0) (n' := 0) (by omega) (by omega) (by decide) (zdk (v := none) ?_) (fun _ _ _ _ h => h.elim)
                  show zT G _ _ _ _ [] _ _ _ _ _ _
                  obtain ⟨m6, em6⟩ : ∃ z, z = ylay mB b (k / 2) (k % 2) (d % T) (d / T) l := ⟨_, rfl⟩
                  rw [← em6]
                  have hE2 : yEw m6 b (uGo C (k / 2) (k % 2) (d % T) (d / T) l) := by rw [em6]; exact hE.go
                  have hI2 : zIn b m m6 := by rw [em6]; exact hI.go
                  have hP2 : aPl (uSnap (uLay (zup A 0 1000 0))) (uGo C (k / 2) (k % 2) (d % T) (d / T) l) := hP.go (by omega) (by omega)
                  refine zT.iload_n 2 dX13_several_123 rfl rfl ?_
                  refine zT.iload 6 dX13_several_124 rfl ?_
                  refine zT.iadd dX13_several_126 ?_
                  refine zT.istore_n 2 dX13_several_127 rfl (by decide) (zpre1 rfl (zcI _)) ?_
                  show zT G _ _ _ [zR b, zI T, zI (d + l), zI k, zI l, zI (T - (d % T)), zI l] _ _ _ _ _ _ _
                  refine zT.iload 4 dX13_several_128 rfl ?_
                  refine zT.iload 6 dX13_several_130 rfl ?_
                  refine zT.isub dX13_several_132 ?_
                  refine zT.istore 4 dX13_several_133 (by decide) (zpre1 rfl (zcI _)) ?_
                  show zT G _ _ _ [zR b, zI T, zI (d + l), zI k, zI (l - l), zI (T - (d % T)), zI l] _ _ _ _ _ _ _
                  refine zT.goto (tgt := 77) dX13_several_135 (by decide) ?_
                  refine zT.loc (V' := [zR b, zI T, zI (d + l), zI k, zI (l - l), zU, zU]) ?_ ⟨Or.inr rfl, Or.inr rfl, Or.inr rfl, Or.inr rfl, Or.inr rfl, Or.inl rfl, Or.inl rfl, trivial⟩
                  exact ih77 _ _ f _ _ (by exact hE2) (by exact hI2) (by exact hP2) (by omega) (by omega) (by omega) (by omega) (by omega) (by exact hT9) (by rw [uGo_n]; omega) (by omega)
          exact L77 _ _ _ 20 _ _ (by exact hE) (by exact hI) (by exact hP) (by omega) (by omega) (by exact Nat.le_refl 20) (by omega) (by rw [zs_s k0]; omega) (by exact hRI) (by exact hn9) (Nat.lt_succ_self _)
    exact L55 _ _ _ _ _ (2 * (aK (A 0 1023) (A 2)) 5).toNat (by exact hE4) (by exact hI4) (by exact aPl.rf.nil) (by first | assumption | exact zq_i _ | exact zand_i _ _ | exact zor_i _ _ | exact zN _ | omega) (by first | assumption | exact zq_i _ | exact zand_i _ _ | exact zor_i _ _ | exact zN _ | omega) (by rfl) (by omega) (by exact hR9) (by rw [uNil_n]; omega) (Nat.lt_succ_self _)
  · refine zT.iconst dX13_several_16 ?_
    refine zT.iret dX13_several_17 rfl ?_
    rw [eQ9]
    exact ⟨by rw [if_pos (by omega)], rfl, by rw [em2, em1]; exact zIn.rf.up0.lay, by rw [if_pos (by omega), em2, em1]; exact hA.up0.lay.w⟩

