/-! PanSlicesModel.image, restore (written by gen/m_res.py) -/
def yImg (m : zMm) (b k : Int) : zMm := zup (zfl (zfl m (b + 4) (2301 * k) (2301 * k + 2301) (fun j => m (b + 2) (j - 2301 * k))) (b + 8) (21 * k) (21 * k + 21) (fun j => m (b + 6) (j - 21 * k))) (b + 9) k 1
def yRes (m : zMm) (b k : Int) : zMm := zup (zfl (zfl m (b + 2) 0 2301 (fun j => m (b + 4) (2301 * k + j))) (b + 6) 0 21 (fun j => m (b + 8) (21 * k + j))) b 1022 0
theorem C_X13_image {G : zG} {S : zS} {m : zMm} {b : Int} {A : zMm} (hb : zMod S b) (hA : yEq m b A) (hV : aVd A) {k : Int} (hk1 : zi k) : zC G mX13_image 2 0 0 [zR b, zI k] S m (zDet (some (zI (if 0 ≤ k ∧ k ≤ 1 then 1 else 0))) S (if 0 ≤ k ∧ k ≤ 1 then yImg (ylaid (zup m b 1000 0) b) b k else ylaid (zup m b 1000 0) b)) zNX := by
  have ym := hA.R hV
  have nm := ym.n
  have sm := ym.s
  have rm := ym.r
  have hk := hV.ki.1
  have hk0 := hk.1
  have hp0 := hV.pl.1
  have hp1 := hV.pl.2.1
  have hsn := hA.at (j := 1022)
  have hsv := hV.un.1
  refine zC.of [zR b, zI k, zU] (by decide) rfl (zEn1 (zcR _) (zEn1 (zcI _) (zEn0 (by simp)))) rfl ?_
  refine zT.rng hb.a1014 (fun zN => ?_)
  refine zT.rng hb.a1016 (fun zN4 => ?_)
  obtain ⟨Q9, eQ9⟩ : ∃ z : zQt, z = (zDet (some (zI (if 0 ≤ k ∧ k ≤ 1 then 1 else 0))) S (if 0 ≤ k ∧ k ≤ 1 then yImg (ylaid (zup m b 1000 0) b) b k else ylaid (zup m b 1000 0) b)) := ⟨_, rfl⟩
  rw [← eQ9]
  refine zT.aload_n 0 dX13_image_0 rfl rfl ?_
  refine zT.iconst dX13_image_1 ?_
  refine zT.putI dX13_image_2 fX13_122 zs_1000 rfl (zMod.k hb) (j := 0) (by decide) rfl (by first | assumption | exact zq_i _ | exact zand_i _ _ | exact zor_i _ _ | exact zN _ | exact zN4 _ | omega) ?_
  obtain ⟨m1, em1⟩ : ∃ z, z = zup m b 1000 0 := ⟨_, rfl⟩
  rw [← em1]
  have ym1 : yR m1 b A := by rw [em1]; exact ym.up (by omega)
  have nm1 := ym1.n
  have sm1 := ym1.s
  have rm1 := ym1.r
  refine zT.aload_n 0 dX13_image_5 rfl rfl ?_
  refine zT.callV (M' := mX13_lay) (b := b) [] [] dX13_image_6 kX13_202 rfl rfl (ci := 10) (r := (RX13, TX13, 62)) rfl (zMod.k hb) (C_X13_lay hb) (by decide) (k' := 0) (n' := 0) (by omega) (by omega) (by decide) (zdk (v := none) ?_) (fun _ _ _ _ h => h.elim)
  show zT G _ _ _ _ [] _ _ _ _ _ _
  obtain ⟨m2, em2⟩ : ∃ z, z = ylaid m1 b := ⟨_, rfl⟩
  rw [← em2]
  have ym2 : yL m2 b A := by rw [em2]; exact hA.L2 hV (fun j => by rw [em1, zup_ne (by omega)]) (by rw [em1, zup_ne (by omega)])
  have nm2 := ym2.1.n
  have sm2 := ym2.1.s
  have rm2 := ym2.1.r
  refine zT.iload_n 1 dX13_image_9 rfl rfl ?_
  refine zT.iconst dX13_image_10 ?_
  refine zT.iconst dX13_image_11 ?_
  refine zT.callS (M' := mX13_isIn) [zI k, zI 0, zI 1] [] dX13_image_12 kX13_189 rfl rfl (C_X13_isIn (by first | assumption | exact zq_i _ | exact zand_i _ _ | exact zor_i _ _ | exact zN _ | exact zN4 _ | omega) (by first | assumption | exact zq_i _ | exact zand_i _ _ | exact zor_i _ _ | exact zN _ | exact zN4 _ | omega) (by first | assumption | exact zq_i _ | exact zand_i _ _ | exact zor_i _ _ | exact zN _ | exact zN4 _ | omega)) (by decide) (k' := 0) (n' := 0) (by omega) (by omega) (by decide) (zdk (v := some (zI (zq (0 ≤ k ∧ k ≤ 1)))) ?_) (fun _ _ _ _ h => h.elim)
  show zT G _ _ _ _ [zI (zq (0 ≤ k ∧ k ≤ 1))] _ _ _ _ _ _
  refine zT.if_neB (tgt := 20) dX13_image_15 (by decide) (fun c15 => ?_) (fun c15 => ?_)
  · refine zT.iconst dX13_image_20 ?_
    refine zT.istore_n 2 dX13_image_21 rfl (by decide) (zpre1 rfl (zcI _)) ?_
    show zT G _ _ _ [zR b, zI k, zI 0] _ _ _ _ _ _ _
    have L22 : ∀ (N : Nat) (i : Int), (0 ≤ i) → (i ≤ 2301) → ((2301 - i).toNat) < N → zT G mX13_image 2 22 [zR b, zI k, zI i] [] S (zfl m2 (b + 4) (2301 * k) (2301 * k + i) (fun j => m2 (b + 2) (j - 2301 * k))) 0 0 Q9 zNX := by
      intro N
      induction N with
      | zero => intro i i0 i1 hN; exact absurd hN (Nat.not_lt_zero _)
      | succ N ih22 =>
        intro i i0 i1 hN
        obtain ⟨m3, em3⟩ : ∃ z, z = zfl m2 (b + 4) (2301 * k) (2301 * k + i) (fun j => m2 (b + 2) (j - 2301 * k)) := ⟨_, rfl⟩
        rw [← em3]
        refine zT.iload_n 2 dX13_image_22 rfl rfl ?_
        refine zT.sipush dX13_image_23 ?_
        refine zT.ic_ge (tgt := 53) dX13_image_26 (by decide) (by first | assumption | exact zq_i _ | exact zand_i _ _ | exact zor_i _ _ | exact zN _ | exact zN4 _ | omega) (by first | assumption | exact zq_i _ | exact zand_i _ _ | exact zor_i _ _ | exact zN _ | exact zN4 _ | omega) (fun c26 => ?_) (fun c26 => ?_)
        · refine zT.iconst dX13_image_53 ?_
          refine zT.istore_n 2 dX13_image_54 rfl (by decide) (zpre1 rfl (zcI _)) ?_
          show zT G _ _ _ [zR b, zI k, zI 0] _ _ _ _ _ _ _
          have L55 : ∀ (N : Nat) (i : Int), (0 ≤ i) → (i ≤ 21) → ((21 - i).toNat) < N → zT G mX13_image 2 55 [zR b, zI k, zI i] [] S (zfl (zfl m2 (b + 4) (2301 * k) (2301 * k + 2301) (fun j => m2 (b + 2) (j - 2301 * k))) (b + 8) (21 * k) (21 * k + i) (fun j => m2 (b + 6) (j - 21 * k))) 0 0 Q9 zNX := by
            intro N
            induction N with
            | zero => intro i i0 i1 hN; exact absurd hN (Nat.not_lt_zero _)
            | succ N ih55 =>
              intro i i0 i1 hN
              obtain ⟨m4, em4⟩ : ∃ z, z = zfl (zfl m2 (b + 4) (2301 * k) (2301 * k + 2301) (fun j => m2 (b + 2) (j - 2301 * k))) (b + 8) (21 * k) (21 * k + i) (fun j => m2 (b + 6) (j - 21 * k)) := ⟨_, rfl⟩
              rw [← em4]
              refine zT.iload_n 2 dX13_image_55 rfl rfl ?_
              refine zT.bipush dX13_image_56 ?_
              refine zT.ic_ge (tgt := 84) dX13_image_58 (by decide) (by first | assumption | exact zq_i _ | exact zand_i _ _ | exact zor_i _ _ | exact zN _ | exact zN4 _ | omega) (by first | assumption | exact zq_i _ | exact zand_i _ _ | exact zor_i _ _ | exact zN _ | exact zN4 _ | omega) (fun c58 => ?_) (fun c58 => ?_)
              · refine zT.aload_n 0 dX13_image_84 rfl rfl ?_
                refine zT.getF dX13_image_85 fX13_35 rfl (zMod.k hb) (j := 21) (by decide) rfl (zMod.f1021 hb) ?_
                refine zT.iload_n 1 dX13_image_88 rfl rfl ?_
                refine zT.iconst dX13_image_89 ?_
                refine zT.zast dX13_image_90 (zMod.a1021 hb) (by first | assumption | exact zq_i _ | exact zand_i _ _ | exact zor_i _ _ | exact zN _ | exact zN4 _ | omega) (by rw [(zMod.n1021 hb)]; first | assumption | exact zq_i _ | exact zand_i _ _ | exact zor_i _ _ | exact zN _ | exact zN4 _ | omega) (by first | assumption | exact zq_i _ | exact zand_i _ _ | exact zor_i _ _ | exact zN _ | exact zN4 _ | omega) ?_
                obtain ⟨m5, em5⟩ : ∃ z, z = zup m4 (b + 9) k 1 := ⟨_, rfl⟩
                rw [← em5]
                refine zT.iconst dX13_image_91 ?_
                refine zT.zret dX13_image_92 rfl (by omega) ?_
                rw [eQ9]
                rw [if_pos (by omega), if_pos (by omega)]
                refine ⟨rfl, rfl, ?_⟩
                unfold yImg
                rw [em5, em4, show i = 21 by omega, em2, em1]
              · refine zT.aload_n 0 dX13_image_61 rfl rfl ?_
                refine zT.getF dX13_image_62 fX13_32 rfl (zMod.k hb) (j := 20) (by decide) rfl (zMod.f1020 hb) ?_
                refine zT.bipush dX13_image_65 ?_
                refine zT.iload_n 1 dX13_image_67 rfl rfl ?_
                refine zT.imul dX13_image_68 ?_
                refine zT.iload_n 2 dX13_image_69 rfl rfl ?_
                refine zT.iadd dX13_image_70 ?_
                refine zT.aload_n 0 dX13_image_71 rfl rfl ?_
                refine zT.getF dX13_image_72 fX13_25 rfl (zMod.k hb) (j := 18) (by decide) rfl (zMod.f1018 hb) ?_
                refine zT.iload_n 2 dX13_image_75 rfl rfl ?_
                refine zT.lald dX13_image_76 (zMod.a1018 hb) (by first | assumption | exact zq_i _ | exact zand_i _ _ | exact zor_i _ _ | exact zN _ | exact zN4 _ | omega) (by rw [(zMod.n1018 hb)]; first | assumption | exact zq_i _ | exact zand_i _ _ | exact zor_i _ _ | exact zN _ | exact zN4 _ | omega) (fun z76 => ?_)
                have r76 : m4 (b + 6) i = m2 (b + 6) i := by rw [em4, zfl_ne (by omega), zfl_ne (by omega)]
                rw [r76] at z76 ⊢
                refine zT.last dX13_image_77 (zMod.a1020 hb) (by first | assumption | exact zq_i _ | exact zand_i _ _ | exact zor_i _ _ | exact zN _ | exact zN4 _ | omega) (by rw [(zMod.n1020 hb)]; first | assumption | exact zq_i _ | exact zand_i _ _ | exact zor_i _ _ | exact zN _ | exact zN4 _ | omega) (by first | assumption | exact zq_i _ | exact zand_i _ _ | exact zor_i _ _ | exact zN _ | exact zN4 _ | omega) ?_
                obtain ⟨m6, em6⟩ : ∃ z, z = zup m4 (b + 8) ((21 * k) + i) (m2 (b + 6) i) := ⟨_, rfl⟩
                rw [← em6]
                refine zT.iinc 2 dX13_image_78 rfl (by decide) (zpre1 rfl (zcI _)) ?_
                show zT G _ _ _ [zR b, zI k, zI (i + 1)] _ _ _ _ _ _ _
                refine zT.goto (tgt := 55) dX13_image_81 (by decide) ?_
                have eb55 : m6 = zfl (zfl m2 (b + 4) (2301 * k) (2301 * k + 2301) (fun j => m2 (b + 2) (j - 2301 * k))) (b + 8) (21 * k) (21 * k + (i + 1)) (fun j => m2 (b + 6) (j - 21 * k)) := by
                  rw [em6, em4, show 21 * k + (i + 1) = 21 * k + i + 1 by omega]
                  have h := zfl_s (m := zfl m2 (b + 4) (2301 * k) (2301 * k + 2301) (fun j => m2 (b + 2) (j - 2301 * k))) (a := b + 8) (f := (fun j => m2 (b + 6) (j - 21 * k))) (show 21 * k ≤ 21 * k + i by omega)
                  rw [← h]
                  congr 2
                  omega
                refine zT.meq eb55 ?_
                exact ih55 _ (by first | assumption | exact zq_i _ | exact zand_i _ _ | exact zor_i _ _ | exact zN _ | exact zN4 _ | omega) (by first | assumption | exact zq_i _ | exact zand_i _ _ | exact zor_i _ _ | exact zN _ | exact zN4 _ | omega) (by omega)
          have eb55 : m3 = zfl (zfl m2 (b + 4) (2301 * k) (2301 * k + 2301) (fun j => m2 (b + 2) (j - 2301 * k))) (b + 8) (21 * k) (21 * k + 0) (fun j => m2 (b + 6) (j - 21 * k)) := by
            rw [Int.add_zero, zfl_0, em3, show i = 2301 by omega]
          refine zT.meq eb55 ?_
          exact L55 _ _ (by first | assumption | exact zq_i _ | exact zand_i _ _ | exact zor_i _ _ | exact zN _ | exact zN4 _ | omega) (by first | assumption | exact zq_i _ | exact zand_i _ _ | exact zor_i _ _ | exact zN _ | exact zN4 _ | omega) (Nat.lt_succ_self _)
        · refine zT.aload_n 0 dX13_image_29 rfl rfl ?_
          refine zT.getF dX13_image_30 fX13_19 rfl (zMod.k hb) (j := 16) (by decide) rfl (zMod.f1016 hb) ?_
          refine zT.sipush dX13_image_33 ?_
          refine zT.iload_n 1 dX13_image_36 rfl rfl ?_
          refine zT.imul dX13_image_37 ?_
          refine zT.iload_n 2 dX13_image_38 rfl rfl ?_
          refine zT.iadd dX13_image_39 ?_
          refine zT.aload_n 0 dX13_image_40 rfl rfl ?_
          refine zT.getF dX13_image_41 fX13_13 rfl (zMod.k hb) (j := 14) (by decide) rfl (zMod.f1014 hb) ?_
          refine zT.iload_n 2 dX13_image_44 rfl rfl ?_
          refine zT.iald dX13_image_45 (zMod.a1014 hb) (by first | assumption | exact zq_i _ | exact zand_i _ _ | exact zor_i _ _ | exact zN _ | exact zN4 _ | omega) (by rw [(zMod.n1014 hb)]; first | assumption | exact zq_i _ | exact zand_i _ _ | exact zor_i _ _ | exact zN _ | exact zN4 _ | omega) (fun z45 => ?_)
          have r45 : m3 (b + 2) i = m2 (b + 2) i := by rw [em3, zfl_ne (by omega)]
          rw [r45] at z45 ⊢
          refine zT.iast dX13_image_46 (zMod.a1016 hb) (by first | assumption | exact zq_i _ | exact zand_i _ _ | exact zor_i _ _ | exact zN _ | exact zN4 _ | omega) (by rw [(zMod.n1016 hb)]; first | assumption | exact zq_i _ | exact zand_i _ _ | exact zor_i _ _ | exact zN _ | exact zN4 _ | omega) (by first | assumption | exact zq_i _ | exact zand_i _ _ | exact zor_i _ _ | exact zN _ | exact zN4 _ | omega) ?_
          obtain ⟨m7, em7⟩ : ∃ z, z = zup m3 (b + 4) ((2301 * k) + i) (m2 (b + 2) i) := ⟨_, rfl⟩
          rw [← em7]
          refine zT.iinc 2 dX13_image_47 rfl (by decide) (zpre1 rfl (zcI _)) ?_
          show zT G _ _ _ [zR b, zI k, zI (i + 1)] _ _ _ _ _ _ _
          refine zT.goto (tgt := 22) dX13_image_50 (by decide) ?_
          have eb22 : m7 = zfl m2 (b + 4) (2301 * k) (2301 * k + (i + 1)) (fun j => m2 (b + 2) (j - 2301 * k)) := by
            rw [em7, em3, show 2301 * k + (i + 1) = 2301 * k + i + 1 by omega]
            have h := zfl_s (m := m2) (a := b + 4) (f := (fun j => m2 (b + 2) (j - 2301 * k))) (show 2301 * k ≤ 2301 * k + i by omega)
            rw [← h]
            congr 2
            omega
          refine zT.meq eb22 ?_
          exact ih22 _ (by first | assumption | exact zq_i _ | exact zand_i _ _ | exact zor_i _ _ | exact zN _ | exact zN4 _ | omega) (by first | assumption | exact zq_i _ | exact zand_i _ _ | exact zor_i _ _ | exact zN _ | exact zN4 _ | omega) (by omega)
    have eb22 : m2 = zfl m2 (b + 4) (2301 * k) (2301 * k + 0) (fun j => m2 (b + 2) (j - 2301 * k)) := by
      rw [Int.add_zero, zfl_0]
    refine zT.meq eb22 ?_
    exact L22 _ _ (by first | assumption | exact zq_i _ | exact zand_i _ _ | exact zor_i _ _ | exact zN _ | exact zN4 _ | omega) (by first | assumption | exact zq_i _ | exact zand_i _ _ | exact zor_i _ _ | exact zN _ | exact zN4 _ | omega) (Nat.lt_succ_self _)
  · refine zT.iconst dX13_image_18 ?_
    refine zT.zret dX13_image_19 rfl (by omega) ?_
    rw [eQ9]
    rw [if_neg (by omega), if_neg (by omega)]
    exact ⟨rfl, rfl, by rw [em2, em1]⟩

theorem C_X13_restore {G : zG} {S : zS} {m : zMm} {b : Int} {A : zMm} (hb : zMod S b) (hA : yEq m b A) (hV : aVd A) {k : Int} (hk1 : zi k) : zC G mX13_restore 2 0 0 [zR b, zI k] S m (zDet (some (zI (if (0 ≤ k ∧ k ≤ 1) ∧ A 9 k = 1 then 1 else 0))) S (if (0 ≤ k ∧ k ≤ 1) ∧ A 9 k = 1 then yRes (ylaid (zup m b 1000 0) b) b k else ylaid (zup m b 1000 0) b)) zNX := by
  have ym := hA.R hV
  have nm := ym.n
  have sm := ym.s
  have rm := ym.r
  have hk := hV.ki.1
  have hk0 := hk.1
  have hp0 := hV.pl.1
  have hp1 := hV.pl.2.1
  have hsn := hA.at (j := 1022)
  have hsv := hV.un.1
  refine zC.of [zR b, zI k, zU] (by decide) rfl (zEn1 (zcR _) (zEn1 (zcI _) (zEn0 (by simp)))) rfl ?_
  refine zT.rng hb.a1014 (fun zN => ?_)
  refine zT.rng hb.a1016 (fun zN4 => ?_)
  obtain ⟨Q9, eQ9⟩ : ∃ z : zQt, z = (zDet (some (zI (if (0 ≤ k ∧ k ≤ 1) ∧ A 9 k = 1 then 1 else 0))) S (if (0 ≤ k ∧ k ≤ 1) ∧ A 9 k = 1 then yRes (ylaid (zup m b 1000 0) b) b k else ylaid (zup m b 1000 0) b)) := ⟨_, rfl⟩
  rw [← eQ9]
  refine zT.aload_n 0 dX13_restore_0 rfl rfl ?_
  refine zT.iconst dX13_restore_1 ?_
  refine zT.putI dX13_restore_2 fX13_122 zs_1000 rfl (zMod.k hb) (j := 0) (by decide) rfl (by first | assumption | exact zq_i _ | exact zand_i _ _ | exact zor_i _ _ | exact zN _ | exact zN4 _ | omega) ?_
  obtain ⟨m1, em1⟩ : ∃ z, z = zup m b 1000 0 := ⟨_, rfl⟩
  rw [← em1]
  have ym1 : yR m1 b A := by rw [em1]; exact ym.up (by omega)
  have nm1 := ym1.n
  have sm1 := ym1.s
  have rm1 := ym1.r
  refine zT.aload_n 0 dX13_restore_5 rfl rfl ?_
  refine zT.callV (M' := mX13_lay) (b := b) [] [] dX13_restore_6 kX13_202 rfl rfl (ci := 10) (r := (RX13, TX13, 62)) rfl (zMod.k hb) (C_X13_lay hb) (by decide) (k' := 0) (n' := 0) (by omega) (by omega) (by decide) (zdk (v := none) ?_) (fun _ _ _ _ h => h.elim)
  show zT G _ _ _ _ [] _ _ _ _ _ _
  obtain ⟨m2, em2⟩ : ∃ z, z = ylaid m1 b := ⟨_, rfl⟩
  rw [← em2]
  have ym2 : yL m2 b A := by rw [em2]; exact hA.L2 hV (fun j => by rw [em1, zup_ne (by omega)]) (by rw [em1, zup_ne (by omega)])
  have nm2 := ym2.1.n
  have sm2 := ym2.1.s
  have rm2 := ym2.1.r
  refine zT.iload_n 1 dX13_restore_9 rfl rfl ?_
  refine zT.iconst dX13_restore_10 ?_
  refine zT.iconst dX13_restore_11 ?_
  refine zT.callS (M' := mX13_isIn) [zI k, zI 0, zI 1] [] dX13_restore_12 kX13_189 rfl rfl (C_X13_isIn (by first | assumption | exact zq_i _ | exact zand_i _ _ | exact zor_i _ _ | exact zN _ | exact zN4 _ | omega) (by first | assumption | exact zq_i _ | exact zand_i _ _ | exact zor_i _ _ | exact zN _ | exact zN4 _ | omega) (by first | assumption | exact zq_i _ | exact zand_i _ _ | exact zor_i _ _ | exact zN _ | exact zN4 _ | omega)) (by decide) (k' := 0) (n' := 0) (by omega) (by omega) (by decide) (zdk (v := some (zI (zq (0 ≤ k ∧ k ≤ 1)))) ?_) (fun _ _ _ _ h => h.elim)
  show zT G _ _ _ _ [zI (zq (0 ≤ k ∧ k ≤ 1))] _ _ _ _ _ _
  refine zT.if_eqB (tgt := 27) dX13_restore_15 (by decide) (fun c15 => ?_) (fun c15 => ?_)
  · refine zT.iconst dX13_restore_27 ?_
    refine zT.zret dX13_restore_28 rfl (by omega) ?_
    rw [eQ9]
    rw [if_neg (by omega), if_neg (by omega)]
    exact ⟨rfl, rfl, by rw [em2, em1]⟩
  · have h9 := hA 9 k (by omega) (by omega)
    have h90 : A 9 k = 0 ∨ A 9 k = 1 := (hV.im k (by omega) (by omega)).elim Or.inl (fun z => Or.inr z.1)
    refine zT.aload_n 0 dX13_restore_18 rfl rfl ?_
    refine zT.getF dX13_restore_19 fX13_35 rfl (zMod.k hb) (j := 21) (by decide) rfl (zMod.f1021 hb) ?_
    refine zT.iload_n 1 dX13_restore_22 rfl rfl ?_
    refine zT.zald dX13_restore_23 (zMod.a1021 hb) (by first | assumption | exact zq_i _ | exact zand_i _ _ | exact zor_i _ _ | exact zN _ | exact zN4 _ | omega) (by rw [(zMod.n1021 hb)]; first | assumption | exact zq_i _ | exact zand_i _ _ | exact zor_i _ _ | exact zN _ | exact zN4 _ | omega) (fun z23 => ?_)
    have r23 : m2 (b + 9) k = m (b + 9) k := by rw [em2, ylaid_o (by omega) (by omega), em1, zup_ne (by omega)]
    rw [r23] at z23 ⊢
    refine zT.if_ne (tgt := 29) dX13_restore_24 (by decide) (by first | assumption | exact zq_i _ | exact zand_i _ _ | exact zor_i _ _ | exact zN _ | exact zN4 _ | omega) (fun c24 => ?_) (fun c24 => ?_)
    · refine zT.iconst dX13_restore_29 ?_
      refine zT.istore_n 2 dX13_restore_30 rfl (by decide) (zpre1 rfl (zcI _)) ?_
      show zT G _ _ _ [zR b, zI k, zI 0] _ _ _ _ _ _ _
      have L31 : ∀ (N : Nat) (i : Int), (0 ≤ i) → (i ≤ 2301) → ((2301 - i).toNat) < N → zT G mX13_restore 2 31 [zR b, zI k, zI i] [] S (zfl m2 (b + 2) 0 i (fun j => m2 (b + 4) (2301 * k + j))) 0 0 Q9 zNX := by
        intro N
        induction N with
        | zero => intro i i0 i1 hN; exact absurd hN (Nat.not_lt_zero _)
        | succ N ih31 =>
          intro i i0 i1 hN
          obtain ⟨m3, em3⟩ : ∃ z, z = zfl m2 (b + 2) 0 i (fun j => m2 (b + 4) (2301 * k + j)) := ⟨_, rfl⟩
          rw [← em3]
          refine zT.iload_n 2 dX13_restore_31 rfl rfl ?_
          refine zT.sipush dX13_restore_32 ?_
          refine zT.ic_ge (tgt := 62) dX13_restore_35 (by decide) (by first | assumption | exact zq_i _ | exact zand_i _ _ | exact zor_i _ _ | exact zN _ | exact zN4 _ | omega) (by first | assumption | exact zq_i _ | exact zand_i _ _ | exact zor_i _ _ | exact zN _ | exact zN4 _ | omega) (fun c35 => ?_) (fun c35 => ?_)
          · refine zT.iconst dX13_restore_62 ?_
            refine zT.istore_n 2 dX13_restore_63 rfl (by decide) (zpre1 rfl (zcI _)) ?_
            show zT G _ _ _ [zR b, zI k, zI 0] _ _ _ _ _ _ _
            have L64 : ∀ (N : Nat) (i : Int), (0 ≤ i) → (i ≤ 21) → ((21 - i).toNat) < N → zT G mX13_restore 2 64 [zR b, zI k, zI i] [] S (zfl (zfl m2 (b + 2) 0 2301 (fun j => m2 (b + 4) (2301 * k + j))) (b + 6) 0 i (fun j => m2 (b + 8) (21 * k + j))) 0 0 Q9 zNX := by
              intro N
              induction N with
              | zero => intro i i0 i1 hN; exact absurd hN (Nat.not_lt_zero _)
              | succ N ih64 =>
                intro i i0 i1 hN
                obtain ⟨m4, em4⟩ : ∃ z, z = zfl (zfl m2 (b + 2) 0 2301 (fun j => m2 (b + 4) (2301 * k + j))) (b + 6) 0 i (fun j => m2 (b + 8) (21 * k + j)) := ⟨_, rfl⟩
                rw [← em4]
                refine zT.iload_n 2 dX13_restore_64 rfl rfl ?_
                refine zT.bipush dX13_restore_65 ?_
                refine zT.ic_ge (tgt := 93) dX13_restore_67 (by decide) (by first | assumption | exact zq_i _ | exact zand_i _ _ | exact zor_i _ _ | exact zN _ | exact zN4 _ | omega) (by first | assumption | exact zq_i _ | exact zand_i _ _ | exact zor_i _ _ | exact zN _ | exact zN4 _ | omega) (fun c67 => ?_) (fun c67 => ?_)
                · refine zT.aload_n 0 dX13_restore_93 rfl rfl ?_
                  refine zT.iconst dX13_restore_94 ?_
                  refine zT.putI dX13_restore_95 fX13_268 zs_1022 rfl (zMod.k hb) (j := 22) (by decide) rfl (by first | assumption | exact zq_i _ | exact zand_i _ _ | exact zor_i _ _ | exact zN _ | exact zN4 _ | omega) ?_
                  obtain ⟨m5, em5⟩ : ∃ z, z = zup m4 b 1022 0 := ⟨_, rfl⟩
                  rw [← em5]
                  refine zT.iconst dX13_restore_98 ?_
                  refine zT.zret dX13_restore_99 rfl (by omega) ?_
                  rw [eQ9]
                  rw [if_pos (by omega), if_pos (by omega)]
                  refine ⟨rfl, rfl, ?_⟩
                  unfold yRes
                  rw [em5, em4, show i = 21 by omega, em2, em1]
                · refine zT.aload_n 0 dX13_restore_70 rfl rfl ?_
                  refine zT.getF dX13_restore_71 fX13_25 rfl (zMod.k hb) (j := 18) (by decide) rfl (zMod.f1018 hb) ?_
                  refine zT.iload_n 2 dX13_restore_74 rfl rfl ?_
                  refine zT.aload_n 0 dX13_restore_75 rfl rfl ?_
                  refine zT.getF dX13_restore_76 fX13_32 rfl (zMod.k hb) (j := 20) (by decide) rfl (zMod.f1020 hb) ?_
                  refine zT.bipush dX13_restore_79 ?_
                  refine zT.iload_n 1 dX13_restore_81 rfl rfl ?_
                  refine zT.imul dX13_restore_82 ?_
                  refine zT.iload_n 2 dX13_restore_83 rfl rfl ?_
                  refine zT.iadd dX13_restore_84 ?_
                  refine zT.lald dX13_restore_85 (zMod.a1020 hb) (by first | assumption | exact zq_i _ | exact zand_i _ _ | exact zor_i _ _ | exact zN _ | exact zN4 _ | omega) (by rw [(zMod.n1020 hb)]; first | assumption | exact zq_i _ | exact zand_i _ _ | exact zor_i _ _ | exact zN _ | exact zN4 _ | omega) (fun z85 => ?_)
                  have r85 : m4 (b + 8) ((21 * k) + i) = m2 (b + 8) ((21 * k) + i) := by rw [em4, zfl_ne (by omega), zfl_ne (by omega)]
                  rw [r85] at z85 ⊢
                  refine zT.last dX13_restore_86 (zMod.a1018 hb) (by first | assumption | exact zq_i _ | exact zand_i _ _ | exact zor_i _ _ | exact zN _ | exact zN4 _ | omega) (by rw [(zMod.n1018 hb)]; first | assumption | exact zq_i _ | exact zand_i _ _ | exact zor_i _ _ | exact zN _ | exact zN4 _ | omega) (by first | assumption | exact zq_i _ | exact zand_i _ _ | exact zor_i _ _ | exact zN _ | exact zN4 _ | omega) ?_
                  obtain ⟨m6, em6⟩ : ∃ z, z = zup m4 (b + 6) i (m2 (b + 8) ((21 * k) + i)) := ⟨_, rfl⟩
                  rw [← em6]
                  refine zT.iinc 2 dX13_restore_87 rfl (by decide) (zpre1 rfl (zcI _)) ?_
                  show zT G _ _ _ [zR b, zI k, zI (i + 1)] _ _ _ _ _ _ _
                  refine zT.goto (tgt := 64) dX13_restore_90 (by decide) ?_
                  have eb64 : m6 = zfl (zfl m2 (b + 2) 0 2301 (fun j => m2 (b + 4) (2301 * k + j))) (b + 6) 0 (i + 1) (fun j => m2 (b + 8) (21 * k + j)) := by
                    rw [em6, em4]
                    exact zfl_s (f := (fun j => m2 (b + 8) (21 * k + j))) i0
                  refine zT.meq eb64 ?_
                  exact ih64 _ (by first | assumption | exact zq_i _ | exact zand_i _ _ | exact zor_i _ _ | exact zN _ | exact zN4 _ | omega) (by first | assumption | exact zq_i _ | exact zand_i _ _ | exact zor_i _ _ | exact zN _ | exact zN4 _ | omega) (by omega)
            have eb64 : m3 = zfl (zfl m2 (b + 2) 0 2301 (fun j => m2 (b + 4) (2301 * k + j))) (b + 6) 0 0 (fun j => m2 (b + 8) (21 * k + j)) := by
              rw [zfl_0, em3, show i = 2301 by omega]
            refine zT.meq eb64 ?_
            exact L64 _ _ (by first | assumption | exact zq_i _ | exact zand_i _ _ | exact zor_i _ _ | exact zN _ | exact zN4 _ | omega) (by first | assumption | exact zq_i _ | exact zand_i _ _ | exact zor_i _ _ | exact zN _ | exact zN4 _ | omega) (Nat.lt_succ_self _)
          · refine zT.aload_n 0 dX13_restore_38 rfl rfl ?_
            refine zT.getF dX13_restore_39 fX13_13 rfl (zMod.k hb) (j := 14) (by decide) rfl (zMod.f1014 hb) ?_
            refine zT.iload_n 2 dX13_restore_42 rfl rfl ?_
            refine zT.aload_n 0 dX13_restore_43 rfl rfl ?_
            refine zT.getF dX13_restore_44 fX13_19 rfl (zMod.k hb) (j := 16) (by decide) rfl (zMod.f1016 hb) ?_
            refine zT.sipush dX13_restore_47 ?_
            refine zT.iload_n 1 dX13_restore_50 rfl rfl ?_
            refine zT.imul dX13_restore_51 ?_
            refine zT.iload_n 2 dX13_restore_52 rfl rfl ?_
            refine zT.iadd dX13_restore_53 ?_
            refine zT.iald dX13_restore_54 (zMod.a1016 hb) (by first | assumption | exact zq_i _ | exact zand_i _ _ | exact zor_i _ _ | exact zN _ | exact zN4 _ | omega) (by rw [(zMod.n1016 hb)]; first | assumption | exact zq_i _ | exact zand_i _ _ | exact zor_i _ _ | exact zN _ | exact zN4 _ | omega) (fun z54 => ?_)
            have r54 : m3 (b + 4) ((2301 * k) + i) = m2 (b + 4) ((2301 * k) + i) := by rw [em3, zfl_ne (by omega)]
            rw [r54] at z54 ⊢
            refine zT.iast dX13_restore_55 (zMod.a1014 hb) (by first | assumption | exact zq_i _ | exact zand_i _ _ | exact zor_i _ _ | exact zN _ | exact zN4 _ | omega) (by rw [(zMod.n1014 hb)]; first | assumption | exact zq_i _ | exact zand_i _ _ | exact zor_i _ _ | exact zN _ | exact zN4 _ | omega) (by first | assumption | exact zq_i _ | exact zand_i _ _ | exact zor_i _ _ | exact zN _ | exact zN4 _ | omega) ?_
            obtain ⟨m7, em7⟩ : ∃ z, z = zup m3 (b + 2) i (m2 (b + 4) ((2301 * k) + i)) := ⟨_, rfl⟩
            rw [← em7]
            refine zT.iinc 2 dX13_restore_56 rfl (by decide) (zpre1 rfl (zcI _)) ?_
            show zT G _ _ _ [zR b, zI k, zI (i + 1)] _ _ _ _ _ _ _
            refine zT.goto (tgt := 31) dX13_restore_59 (by decide) ?_
            have eb31 : m7 = zfl m2 (b + 2) 0 (i + 1) (fun j => m2 (b + 4) (2301 * k + j)) := by
              rw [em7, em3]
              exact zfl_s (f := (fun j => m2 (b + 4) (2301 * k + j))) i0
            refine zT.meq eb31 ?_
            exact ih31 _ (by first | assumption | exact zq_i _ | exact zand_i _ _ | exact zor_i _ _ | exact zN _ | exact zN4 _ | omega) (by first | assumption | exact zq_i _ | exact zand_i _ _ | exact zor_i _ _ | exact zN _ | exact zN4 _ | omega) (by omega)
      have eb31 : m2 = zfl m2 (b + 2) 0 0 (fun j => m2 (b + 4) (2301 * k + j)) := by
        rw [zfl_0]
      refine zT.meq eb31 ?_
      exact L31 _ _ (by first | assumption | exact zq_i _ | exact zand_i _ _ | exact zor_i _ _ | exact zN _ | exact zN4 _ | omega) (by first | assumption | exact zq_i _ | exact zand_i _ _ | exact zor_i _ _ | exact zN _ | exact zN4 _ | omega) (Nat.lt_succ_self _)
    · refine zT.iconst dX13_restore_27 ?_
      refine zT.zret dX13_restore_28 rfl (by omega) ?_
      rw [eQ9]
      rw [if_neg (by omega), if_neg (by omega)]
      exact ⟨rfl, rfl, by rw [em2, em1]⟩

