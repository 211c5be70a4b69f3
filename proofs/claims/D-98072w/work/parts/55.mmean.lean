/-! PanSlicesModel.mean, idle (written by gen/m_mean2.py) -/
theorem C_X13_refuseLong {G : zG} {S : zS} {m : zMm} {b : Int} (hb : zMod S b) : zC G mX13_refuseLong 0 0 0 [zR b] S m (zDet (some (zJ 0)) S (zup m b 1000 1)) zNX := by
  refine zC.of [zR b] (by decide) rfl (zEn1 (zcR _) (zEn0 (by simp))) rfl ?_
  refine zT.aload_n 0 dX13_refuseLong_0 rfl rfl ?_
  refine zT.iconst dX13_refuseLong_1 ?_
  refine zT.putI dX13_refuseLong_2 fX13_122 zs_1000 rfl (zMod.k hb) (j := 0) (by decide) rfl (by omega) ?_
  refine zT.lconst dX13_refuseLong_5 ?_
  show zT G _ _ _ _ (zJ 0 :: _) _ _ _ _ _ _
  refine zT.lret dX13_refuseLong_6 rfl ?_
  exact ⟨rfl, rfl, rfl⟩
theorem C_X13_mean {G : zG} {S : zS} {m : zMm} {b : Int} {A : zMm} (hb : zMod S b) (hA : yEq m b A) (hV : aVd A) {s c : Int} (hs : zi s) (hc : zi c) : zC G mX13_mean 2 0 0 [zR b, zI s, zI c] S m (zDet (some (zJ (if (0 ≤ s ∧ s < (aK (A 0 1023) (A 2)) 5) ∧ 0 ≤ c ∧ c ≤ 1 then fMean (aK (A 0 1023) (A 2)) s c else 0))) S (zup (ylaid m b) b 1000 (if (0 ≤ s ∧ s < (aK (A 0 1023) (A 2)) 5) ∧ 0 ≤ c ∧ c ≤ 1 then 0 else 1))) zNX := by
  have ym := hA.R hV
  have nm := ym.n
  have sm := ym.s
  have rm := ym.r
  have hk := hV.ki.1
  have hk0 := hk.1
  have hp0 := hV.pl.1
  have hp1 := hV.pl.2.1
  refine zC.of [zR b, zI s, zI c, zU, zU, zU, zU, zU, zU, zU, zU] (by decide) rfl (zEn1 (zcR _) (zEn1 (zcI _) (zEn1 (zcI _) (zEn0 (by simp))))) rfl ?_
  refine zT.rng hb.a1014 (fun zN => ?_)
  obtain ⟨Q9, eQ9⟩ : ∃ z : zQt, z = (zDet (some (zJ (if (0 ≤ s ∧ s < (aK (A 0 1023) (A 2)) 5) ∧ 0 ≤ c ∧ c ≤ 1 then fMean (aK (A 0 1023) (A 2)) s c else 0))) S (zup (ylaid m b) b 1000 (if (0 ≤ s ∧ s < (aK (A 0 1023) (A 2)) 5) ∧ 0 ≤ c ∧ c ≤ 1 then 0 else 1))) := ⟨_, rfl⟩
  rw [← eQ9]
  refine zT.aload_n 0 dX13_mean_0 rfl rfl ?_
  refine zT.callV (M' := mX13_lay) (b := b) [] [] dX13_mean_1 kX13_202 rfl rfl (ci := 10) (r := (RX13, TX13, 62)) rfl (zMod.k hb) (C_X13_lay hb) (by decide) (k' := 0) (n' := 0) (by omega) (by omega) (by decide) (zdk (v := none) ?_) (fun _ _ _ _ h => h.elim)
  show zT G _ _ _ _ [] _ _ _ _ _ _
  obtain ⟨m1, em1⟩ : ∃ z, z = ylaid m b := ⟨_, rfl⟩
  rw [← em1]
  have ym1 : yL m1 b A := by rw [em1]; exact hA.L2 hV (fun j => by rfl) (by rfl)
  have nm1 := ym1.1.n
  have sm1 := ym1.1.s
  have rm1 := ym1.1.r
  refine zT.aload_n 0 dX13_mean_4 rfl rfl ?_
  refine zT.iload_n 1 dX13_mean_5 rfl rfl ?_
  refine zT.callV (M' := mX13_isSlice) (b := b) [zI s] [] dX13_mean_6 kX13_274 rfl rfl (ci := 10) (r := (RX13, TX13, 62)) rfl (zMod.k hb) (C_X13_isSlice hb (by first | assumption | exact zq_i _ | exact zand_i _ _ | exact zor_i _ _ | exact zN _ | omega)) (by decide) (k' := 0) (n' := 0) (by omega) (by omega) (by decide) (zdk (v := some (zI (zq (0 ≤ s ∧ s < m1 (b + 2) (5))))) ?_) (fun _ _ _ _ h => h.elim)
  show zT G _ _ _ _ [zI (zq (0 ≤ s ∧ s < m1 (b + 2) (5)))] _ _ _ _ _ _
  refine zT.if_eqB (tgt := 21) dX13_mean_9 (by decide) (fun c9 => ?_) (fun c9 => ?_)
  · refine zT.aload_n 0 dX13_mean_21 rfl rfl ?_
    refine zT.callV (M' := mX13_refuseLong) (b := b) [] [] dX13_mean_22 kX13_422 rfl rfl (ci := 10) (r := (RX13, TX13, 62)) rfl (zMod.k hb) (C_X13_refuseLong hb) (by decide) (k' := 0) (n' := 0) (by omega) (by omega) (by decide) (zdk (v := some (zJ 0)) ?_) (fun _ _ _ _ h => h.elim)
    show zT G _ _ _ _ [zJ 0] _ _ _ _ _ _
    obtain ⟨m2, em2⟩ : ∃ z, z = zup m1 b 1000 1 := ⟨_, rfl⟩
    rw [← em2]
    have ym2 : yL m2 b A := by rw [em2]; exact ym1.up (by omega)
    have nm2 := ym2.1.n
    have sm2 := ym2.1.s
    have rm2 := ym2.1.r
    refine zT.lret dX13_mean_25 rfl ?_
    rw [eQ9]
    refine ⟨by rw [if_neg (by omega)], rfl, by rw [if_neg (by omega), em2, em1]⟩
  · refine zT.iload_n 2 dX13_mean_12 rfl rfl ?_
    refine zT.iconst dX13_mean_13 ?_
    refine zT.iconst dX13_mean_14 ?_
    refine zT.callS (M' := mX13_isIn) [zI c, zI 0, zI 1] [] dX13_mean_15 kX13_189 rfl rfl (C_X13_isIn (by first | assumption | exact zq_i _ | exact zand_i _ _ | exact zor_i _ _ | exact zN _ | omega) (by first | assumption | exact zq_i _ | exact zand_i _ _ | exact zor_i _ _ | exact zN _ | omega) (by first | assumption | exact zq_i _ | exact zand_i _ _ | exact zor_i _ _ | exact zN _ | omega)) (by decide) (k' := 0) (n' := 0) (by omega) (by omega) (by decide) (zdk (v := some (zI (zq (0 ≤ c ∧ c ≤ 1)))) ?_) (fun _ _ _ _ h => h.elim)
    show zT G _ _ _ _ [zI (zq (0 ≤ c ∧ c ≤ 1))] _ _ _ _ _ _
    refine zT.if_neB (tgt := 26) dX13_mean_18 (by decide) (fun c18 => ?_) (fun c18 => ?_)
    · have hkv := hk.2.1 s (by omega) (by omega)
      have hub := fMn_b hk (s := s) (by omega) (by omega)
      have hgp := zg_p hub.1.1 (show 0 < fBl (aK (A 0 1023) (A 2)) by omega)
      refine zT.aload_n 0 dX13_mean_26 rfl rfl ?_
      refine zT.iconst dX13_mean_27 ?_
      refine zT.putI dX13_mean_28 fX13_122 zs_1000 rfl (zMod.k hb) (j := 0) (by decide) rfl (by first | assumption | exact zq_i _ | exact zand_i _ _ | exact zor_i _ _ | exact zN _ | omega) ?_
      obtain ⟨m3, em3⟩ : ∃ z, z = zup m1 b 1000 0 := ⟨_, rfl⟩
      rw [← em3]
      have ym3 : yL m3 b A := by rw [em3]; exact ym1.up (by omega)
      have nm3 := ym3.1.n
      have sm3 := ym3.1.s
      have rm3 := ym3.1.r
      refine zT.aload_n 0 dX13_mean_31 rfl rfl ?_
      refine zT.getF dX13_mean_32 fX13_13 rfl (zMod.k hb) (j := 14) (by decide) rfl (zMod.f1014 hb) ?_
      refine zT.iconst dX13_mean_35 ?_
      refine zT.iald dX13_mean_36 (zMod.a1014 hb) (by first | assumption | exact zq_i _ | exact zand_i _ _ | exact zor_i _ _ | exact zN _ | omega) (by rw [(zMod.n1014 hb)]; first | assumption | exact zq_i _ | exact zand_i _ _ | exact zor_i _ _ | exact zN _ | omega) (fun z36 => ?_)
      have r36 : m3 (b + 2) 4 = m1 (b + 2) 4 := by rw [em3, zup_ne (by omega)]
      rw [r36] at z36 ⊢
      rw [ym1.2 (4) (by omega) (by omega)]
      refine zT.i2l dX13_mean_37 (by first | assumption | exact zq_i _ | exact zand_i _ _ | exact zor_i _ _ | exact zN _ | omega) ?_
      refine zT.lstore_n 3 dX13_mean_38 rfl (by decide) (zpre1 rfl (zcI _)) ?_
      show zT G _ _ _ [zR b, zI s, zI c, zJ ((aK (A 0 1023) (A 2)) 4), zU, zU, zU, zU, zU, zU, zU] _ _ _ _ _ _ _
      refine zT.lload_n 3 dX13_mean_39 rfl rfl ?_
      refine zT.aload_n 0 dX13_mean_40 rfl rfl ?_
      refine zT.getF dX13_mean_41 fX13_13 rfl (zMod.k hb) (j := 14) (by decide) rfl (zMod.f1014 hb) ?_
      refine zT.iconst dX13_mean_44 ?_
      refine zT.iald dX13_mean_45 (zMod.a1014 hb) (by first | assumption | exact zq_i _ | exact zand_i _ _ | exact zor_i _ _ | exact zN _ | omega) (by rw [(zMod.n1014 hb)]; first | assumption | exact zq_i _ | exact zand_i _ _ | exact zor_i _ _ | exact zN _ | omega) (fun z45 => ?_)
      have r45 : m3 (b + 2) 3 = m1 (b + 2) 3 := by rw [em3, zup_ne (by omega)]
      rw [r45] at z45 ⊢
      rw [ym1.2 (3) (by omega) (by omega)]
      refine zT.i2l dX13_mean_46 (by first | assumption | exact zq_i _ | exact zand_i _ _ | exact zor_i _ _ | exact zN _ | omega) ?_
      refine zT.lsub dX13_mean_47 ?_
      refine zT.lstore 5 dX13_mean_48 (by decide) (zpreU rfl) ?_
      show zT G _ _ _ [zR b, zI s, zI c, zJ ((aK (A 0 1023) (A 2)) 4), zU, zJ (((aK (A 0 1023) (A 2)) 4) - ((aK (A 0 1023) (A 2)) 3)), zU, zU, zU, zU, zU] _ _ _ _ _ _ _
      refine zT.lload_n 3 dX13_mean_50 rfl rfl ?_
      refine zT.aload_n 0 dX13_mean_51 rfl rfl ?_
      refine zT.iload_n 1 dX13_mean_52 rfl rfl ?_
      refine zT.iconst dX13_mean_53 ?_
      refine zT.callV (M' := mX13_needs) (b := b) [zI s, zI 0] [zJ ((aK (A 0 1023) (A 2)) 4)] dX13_mean_54 kX13_309 rfl rfl (ci := 10) (r := (RX13, TX13, 62)) rfl (zMod.k hb) (C_X13_needs hb (by first | assumption | exact zq_i _ | exact zand_i _ _ | exact zor_i _ _ | exact zN _ | omega) (by first | assumption | exact zq_i _ | exact zand_i _ _ | exact zor_i _ _ | exact zN _ | omega)) (by decide) (k' := 0) (n' := 0) (by omega) (by omega) (by simp only [List.map, zcI, zcJ, zcR, List.sum_cons, List.sum_nil]; decide) (zdk (v := some (zI (m3 (b + 2) (8 + 3 * s + 0)))) ?_) (fun _ _ _ _ h => h.elim)
      show zT G _ _ _ _ [zI (m3 (b + 2) (8 + 3 * s + 0)), zJ ((aK (A 0 1023) (A 2)) 4)] _ _ _ _ _ _
      rw [ym3.2 (8 + 3 * s + 0) (by omega) (by omega)]
      refine zT.i2l dX13_mean_57 (by first | assumption | exact zq_i _ | exact zand_i _ _ | exact zor_i _ _ | exact zN _ | omega) ?_
      refine zT.lload_n 3 dX13_mean_58 rfl rfl ?_
      refine zT.lmul dX13_mean_59 ?_
      refine zT.aload_n 0 dX13_mean_60 rfl rfl ?_
      refine zT.iload_n 1 dX13_mean_61 rfl rfl ?_
      refine zT.iconst dX13_mean_62 ?_
      refine zT.callV (M' := mX13_needs) (b := b) [zI s, zI 1] [zJ (((aK (A 0 1023) (A 2)) (8 + 3 * s + 0)) * ((aK (A 0 1023) (A 2)) 4)), zJ ((aK (A 0 1023) (A 2)) 4)] dX13_mean_63 kX13_309 rfl rfl (ci := 10) (r := (RX13, TX13, 62)) rfl (zMod.k hb) (C_X13_needs hb (by first | assumption | exact zq_i _ | exact zand_i _ _ | exact zor_i _ _ | exact zN _ | omega) (by first | assumption | exact zq_i _ | exact zand_i _ _ | exact zor_i _ _ | exact zN _ | omega)) (by decide) (k' := 0) (n' := 0) (by omega) (by omega) (by simp only [List.map, zcI, zcJ, zcR, List.sum_cons, List.sum_nil]; decide) (zdk (v := some (zI (m3 (b + 2) (8 + 3 * s + 1)))) ?_) (fun _ _ _ _ h => h.elim)
      show zT G _ _ _ _ [zI (m3 (b + 2) (8 + 3 * s + 1)), zJ (((aK (A 0 1023) (A 2)) (8 + 3 * s + 0)) * ((aK (A 0 1023) (A 2)) 4)), zJ ((aK (A 0 1023) (A 2)) 4)] _ _ _ _ _ _
      rw [ym3.2 (8 + 3 * s + 1) (by omega) (by omega)]
      refine zT.i2l dX13_mean_66 (by first | assumption | exact zq_i _ | exact zand_i _ _ | exact zor_i _ _ | exact zN _ | omega) ?_
      refine zT.lload 5 dX13_mean_67 rfl ?_
      refine zT.lmul dX13_mean_69 ?_
      refine zT.ladd dX13_mean_70 ?_
      refine zT.lmul dX13_mean_71 ?_
      refine zT.lstore 7 dX13_mean_72 (by decide) (zpreU rfl) ?_
      show zT G _ _ _ [zR b, zI s, zI c, zJ ((aK (A 0 1023) (A 2)) 4), zU, zJ (((aK (A 0 1023) (A 2)) 4) - ((aK (A 0 1023) (A 2)) 3)), zU, zJ (((aK (A 0 1023) (A 2)) 4) * ((((aK (A 0 1023) (A 2)) (8 + 3 * s + 0)) * ((aK (A 0 1023) (A 2)) 4)) + (((aK (A 0 1023) (A 2)) (8 + 3 * s + 1)) * (((aK (A 0 1023) (A 2)) 4) - ((aK (A 0 1023) (A 2)) 3))))), zU, zU, zU] _ _ _ _ _ _ _
      rw [show (((aK (A 0 1023) (A 2)) 4) * ((((aK (A 0 1023) (A 2)) (8 + 3 * s + 0)) * ((aK (A 0 1023) (A 2)) 4)) + (((aK (A 0 1023) (A 2)) (8 + 3 * s + 1)) * (((aK (A 0 1023) (A 2)) 4) - ((aK (A 0 1023) (A 2)) 3)))) : Int) = fUp (aK (A 0 1023) (A 2)) s from fUp_m]
      refine zT.lload 5 dX13_mean_74 rfl ?_
      refine zT.lload 5 dX13_mean_76 rfl ?_
      refine zT.lmul dX13_mean_78 ?_
      refine zT.lstore 9 dX13_mean_79 (by decide) (zpreU rfl) ?_
      show zT G _ _ _ [zR b, zI s, zI c, zJ ((aK (A 0 1023) (A 2)) 4), zU, zJ (((aK (A 0 1023) (A 2)) 4) - ((aK (A 0 1023) (A 2)) 3)), zU, zJ (fUp (aK (A 0 1023) (A 2)) s), zU, zJ ((((aK (A 0 1023) (A 2)) 4) - ((aK (A 0 1023) (A 2)) 3)) * (((aK (A 0 1023) (A 2)) 4) - ((aK (A 0 1023) (A 2)) 3))), zU] _ _ _ _ _ _ _
      rw [show ((((aK (A 0 1023) (A 2)) 4) - ((aK (A 0 1023) (A 2)) 3)) * (((aK (A 0 1023) (A 2)) 4) - ((aK (A 0 1023) (A 2)) 3)) : Int) = fBl (aK (A 0 1023) (A 2)) from rfl]
      refine zT.iload_n 2 dX13_mean_81 rfl rfl ?_
      refine zT.if_ne (tgt := 90) dX13_mean_82 (by decide) (by first | assumption | exact zq_i _ | exact zand_i _ _ | exact zor_i _ _ | exact zN _ | omega) (fun c82 => ?_) (fun c82 => ?_)
      · refine zT.lload 9 dX13_mean_90 rfl ?_
        refine zT.lload 7 dX13_mean_92 rfl ?_
        refine zT.lload 9 dX13_mean_94 rfl ?_
        refine zT.callS (M' := mX13_common) [zJ (fUp (aK (A 0 1023) (A 2)) s), zJ (fBl (aK (A 0 1023) (A 2)))] [zJ (fBl (aK (A 0 1023) (A 2)))] dX13_mean_96 kX13_426 rfl rfl (C_X13_common hub.1.1 (by omega) (by omega) (by omega)) (by decide) (k' := 0) (n' := 0) (by omega) (by omega) (by simp only [List.map, zcI, zcJ, zcR, List.sum_cons, List.sum_nil]; decide) (zdk (v := some (zJ (zg (fUp (aK (A 0 1023) (A 2)) s) (fBl (aK (A 0 1023) (A 2)))))) ?_) (fun _ _ _ _ h => h.elim)
        show zT G _ _ _ _ [zJ (zg (fUp (aK (A 0 1023) (A 2)) s) (fBl (aK (A 0 1023) (A 2)))), zJ (fBl (aK (A 0 1023) (A 2)))] _ _ _ _ _ _
        refine zT.ldiv dX13_mean_99 (by omega) (by omega) (by omega) (by omega) ?_
        refine zT.lret dX13_mean_100 rfl ?_
        rw [eQ9]
        refine ⟨?_, rfl, by rw [if_pos (by omega), em3, em1]⟩
        rw [if_pos (by omega)]
        unfold fMean
        first
          | (rw [if_pos (by omega)]; done)
          | (rw [if_neg (by omega)]; done)
      · refine zT.lload 7 dX13_mean_85 rfl ?_
        refine zT.goto (tgt := 92) dX13_mean_87 (by decide) ?_
        refine zT.lload 7 dX13_mean_92 rfl ?_
        refine zT.lload 9 dX13_mean_94 rfl ?_
        refine zT.callS (M' := mX13_common) [zJ (fUp (aK (A 0 1023) (A 2)) s), zJ (fBl (aK (A 0 1023) (A 2)))] [zJ (fUp (aK (A 0 1023) (A 2)) s)] dX13_mean_96 kX13_426 rfl rfl (C_X13_common hub.1.1 (by omega) (by omega) (by omega)) (by decide) (k' := 0) (n' := 0) (by omega) (by omega) (by simp only [List.map, zcI, zcJ, zcR, List.sum_cons, List.sum_nil]; decide) (zdk (v := some (zJ (zg (fUp (aK (A 0 1023) (A 2)) s) (fBl (aK (A 0 1023) (A 2)))))) ?_) (fun _ _ _ _ h => h.elim)
        show zT G _ _ _ _ [zJ (zg (fUp (aK (A 0 1023) (A 2)) s) (fBl (aK (A 0 1023) (A 2)))), zJ (fUp (aK (A 0 1023) (A 2)) s)] _ _ _ _ _ _
        refine zT.ldiv dX13_mean_99 (by omega) (by omega) (by omega) (by omega) ?_
        refine zT.lret dX13_mean_100 rfl ?_
        rw [eQ9]
        refine ⟨?_, rfl, by rw [if_pos (by omega), em3, em1]⟩
        rw [if_pos (by omega)]
        unfold fMean
        first
          | (rw [if_pos (by omega)]; done)
          | (rw [if_neg (by omega)]; done)
    · refine zT.aload_n 0 dX13_mean_21 rfl rfl ?_
      refine zT.callV (M' := mX13_refuseLong) (b := b) [] [] dX13_mean_22 kX13_422 rfl rfl (ci := 10) (r := (RX13, TX13, 62)) rfl (zMod.k hb) (C_X13_refuseLong hb) (by decide) (k' := 0) (n' := 0) (by omega) (by omega) (by decide) (zdk (v := some (zJ 0)) ?_) (fun _ _ _ _ h => h.elim)
      show zT G _ _ _ _ [zJ 0] _ _ _ _ _ _
      obtain ⟨m4, em4⟩ : ∃ z, z = zup m1 b 1000 1 := ⟨_, rfl⟩
      rw [← em4]
      have ym4 : yL m4 b A := by rw [em4]; exact ym1.up (by omega)
      have nm4 := ym4.1.n
      have sm4 := ym4.1.s
      have rm4 := ym4.1.r
      refine zT.lret dX13_mean_25 rfl ?_
      rw [eQ9]
      refine ⟨by rw [if_neg (by omega)], rfl, by rw [if_neg (by omega), em4, em1]⟩

