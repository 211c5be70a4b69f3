/-! cooks: the class (written by gen/m_cook.py) -/
theorem C_X9_likes {G : zG} {S : zS} {m : zMm} {q t u : Int} (ht : 0 ≤ t ∧ t ≤ 20) (hu : 0 ≤ u ∧ u ≤ 20) : zC G mX9_likes 0 0 0 [zR q, zI t, zI u] S m (zDet (some (zI (cLk 0 t u))) S m) zNX := by
  refine zC.of [zR q, zI t, zI u] (by decide) rfl (zEn1 (zcR _) (zEn1 (zcI _) (zEn1 (zcI _) (zEn0 (by simp))))) rfl ?_
  refine zT.iconst dX9_likes_0 ?_
  refine zT.iret dX9_likes_1 rfl ?_
  refine ⟨?_, rfl, rfl⟩
  unfold cLk
  first
    | rfl
    | (rw [if_neg (by omega), if_pos (by omega)]; done)
    | (rw [if_neg (by omega), if_neg (by omega), if_pos (by omega)]; done)
    | (rw [if_neg (by omega), if_neg (by omega), if_neg (by omega)]; done)

theorem C_X10_likes {G : zG} {S : zS} {m : zMm} {q t u : Int} (ht : 0 ≤ t ∧ t ≤ 20) (hu : 0 ≤ u ∧ u ≤ 20) : zC G mX10_likes 0 0 0 [zR q, zI t, zI u] S m (zDet (some (zI (cLk 1 t u))) S m) zNX := by
  refine zC.of [zR q, zI t, zI u] (by decide) rfl (zEn1 (zcR _) (zEn1 (zcI _) (zEn1 (zcI _) (zEn0 (by simp))))) rfl ?_
  refine zT.iload_n 1 dX10_likes_0 rfl rfl ?_
  refine zT.iload_n 2 dX10_likes_1 rfl rfl ?_
  refine zT.iadd dX10_likes_2 ?_
  refine zT.iret dX10_likes_3 rfl ?_
  refine ⟨?_, rfl, rfl⟩
  unfold cLk
  first
    | rfl
    | (rw [if_neg (by omega), if_pos (by omega)]; done)
    | (rw [if_neg (by omega), if_neg (by omega), if_pos (by omega)]; done)
    | (rw [if_neg (by omega), if_neg (by omega), if_neg (by omega)]; done)

theorem C_X11_likes {G : zG} {S : zS} {m : zMm} {q t u : Int} (ht : 0 ≤ t ∧ t ≤ 20) (hu : 0 ≤ u ∧ u ≤ 20) : zC G mX11_likes 0 0 0 [zR q, zI t, zI u] S m (zDet (some (zI (cLk 2 t u))) S m) zNX := by
  refine zC.of [zR q, zI t, zI u] (by decide) rfl (zEn1 (zcR _) (zEn1 (zcI _) (zEn1 (zcI _) (zEn0 (by simp))))) rfl ?_
  refine zT.iload_n 1 dX11_likes_0 rfl rfl ?_
  refine zT.if_eq (tgt := 8) dX11_likes_1 (by decide) (by first | assumption | exact zq_i _ | exact zand_i _ _ | exact zor_i _ _ | exact zN _ | omega) (fun c1 => ?_) (fun c1 => ?_)
  · refine zT.iconst dX11_likes_8 ?_
    refine zT.goto (tgt := 13) dX11_likes_9 (by decide) ?_
    refine zT.iret dX11_likes_13 rfl ?_
    refine ⟨?_, rfl, rfl⟩
    unfold cLk
    first
      | rfl
      | (rw [if_neg (by omega), if_pos (by omega)]; done)
      | (rw [if_neg (by omega), if_neg (by omega), if_pos (by omega)]; done)
      | (rw [if_neg (by omega), if_neg (by omega), if_neg (by omega)]; done)
  · refine zT.iload_n 2 dX11_likes_4 rfl rfl ?_
    refine zT.if_ne (tgt := 12) dX11_likes_5 (by decide) (by first | assumption | exact zq_i _ | exact zand_i _ _ | exact zor_i _ _ | exact zN _ | omega) (fun c5 => ?_) (fun c5 => ?_)
    · refine zT.iconst dX11_likes_12 ?_
      refine zT.iret dX11_likes_13 rfl ?_
      refine ⟨?_, rfl, rfl⟩
      unfold cLk
      first
        | rfl
        | (rw [if_neg (by omega), if_pos (by omega)]; done)
        | (rw [if_neg (by omega), if_neg (by omega), if_pos (by omega)]; done)
        | (rw [if_neg (by omega), if_neg (by omega), if_neg (by omega)]; done)
    · refine zT.iconst dX11_likes_8 ?_
      refine zT.goto (tgt := 13) dX11_likes_9 (by decide) ?_
      refine zT.iret dX11_likes_13 rfl ?_
      refine ⟨?_, rfl, rfl⟩
      unfold cLk
      first
        | rfl
        | (rw [if_neg (by omega), if_pos (by omega)]; done)
        | (rw [if_neg (by omega), if_neg (by omega), if_pos (by omega)]; done)
        | (rw [if_neg (by omega), if_neg (by omega), if_neg (by omega)]; done)

theorem C_X1_sideOf {G : zG} {S : zS} {m : zMm} {x p : Int} {K L O W Y : Int → Int} (hx : zPan S x) (h7 : m x 7 = p) (hkr : zKR S m p K) (hk : zKV K) (hL : ∀ j, 0 ≤ j → j < 16 → m (x + 39) j = L j) (hLb : ∀ j, 0 ≤ j → j < 16 → 0 ≤ L j ∧ L j ≤ 20) (hO : ∀ j, 0 ≤ j → j < 16 → m (x + 40) j = O j) (hOb : ∀ j, 0 ≤ j → j < 16 → 0 ≤ O j ∧ O j ≤ 100000) (hY : ∀ j, 0 ≤ j → j < K 0 → m (x + 41) j = Y j) (hYb : ∀ j, 0 ≤ j → j < K 0 → -1 ≤ Y j ∧ Y j < 16) (hW : ∀ j, 0 ≤ j → j < K 0 → m (x + 42) j = W j) {s : Int} (s0 : 0 ≤ s) (s1 : s < 8) : zC G mX1_sideOf 0 0 0 [zR x, zI s] S m (zDet (some (zI (cSd K L s))) S m) zNX := by
  have hkf := hkr.2.1
  have hk0 := hk.1
  have l0 := hL (2 * s + 0) (by omega) (by omega)
  have l1 := hL (2 * s + 1) (by omega) (by omega)
  have l2 := hL (2 * s) (by omega) (by omega)
  have m0 := hkr.min (j := 2 * s + 0) (by omega) (by omega)
  have m1 := hkr.min (j := 2 * s + 1) (by omega) (by omega)
  have b0 := hLb (2 * s) (by omega) (by omega)
  have b1 := hLb (2 * s + 1) (by omega) (by omega)
  have b2 := hLb (2 * s + 0) (by omega) (by omega)
  refine zC.of [zR x, zI s, zU] (by decide) rfl (zEn1 (zcR _) (zEn1 (zcI _) (zEn0 (by simp)))) rfl ?_
  refine zT.iconst dX1_sideOf_0 ?_
  refine zT.istore_n 2 dX1_sideOf_1 rfl (by decide) (zpre1 rfl (zcI _)) ?_
  show zT G _ _ _ [zR x, zI s, zI 0] _ _ _ _ _ _ _
  refine zT.iload_n 2 dX1_sideOf_2 rfl rfl ?_
  refine zT.iconst dX1_sideOf_3 ?_
  refine zT.ic_ge (tgt := 58) dX1_sideOf_4 (by decide) (by first | assumption | exact zq_i _ | exact zand_i _ _ | exact zor_i _ _ | exact zN _ | omega) (by first | assumption | exact zq_i _ | exact zand_i _ _ | exact zor_i _ _ | exact zN _ | omega) (fun c4 => absurd c4 (by decide)) (fun c4 => ?_)
  refine zT.aload_n 0 dX1_sideOf_7 rfl rfl ?_
  refine zT.getF dX1_sideOf_8 fX1_138 rfl (zPan.k hx) (j := 25) (by decide) rfl (zPan.f25 hx) ?_
  refine zT.iconst dX1_sideOf_11 ?_
  refine zT.iload_n 1 dX1_sideOf_12 rfl rfl ?_
  refine zT.imul dX1_sideOf_13 ?_
  refine zT.iload_n 2 dX1_sideOf_14 rfl rfl ?_
  refine zT.iadd dX1_sideOf_15 ?_
  refine zT.iald dX1_sideOf_16 (zPan.a25 hx) (by first | assumption | exact zq_i _ | exact zand_i _ _ | exact zor_i _ _ | exact zN _ | omega) (by rw [(zPan.n25 hx)]; first | assumption | exact zq_i _ | exact zand_i _ _ | exact zor_i _ _ | exact zN _ | omega) (fun z16 => ?_)
  refine zT.if_le (tgt := 52) dX1_sideOf_17 (by decide) (by first | assumption | exact zq_i _ | exact zand_i _ _ | exact zor_i _ _ | exact zN _ | omega) (fun c17 => ?_) (fun c17 => ?_)
  · refine zT.iinc 2 dX1_sideOf_52 rfl (by decide) (zpre1 rfl (zcI _)) ?_
    show zT G _ _ _ [zR x, zI s, zI 1] _ _ _ _ _ _ _
    refine zT.goto (tgt := 2) dX1_sideOf_55 (by decide) ?_
    refine zT.iload_n 2 dX1_sideOf_2 rfl rfl ?_
    refine zT.iconst dX1_sideOf_3 ?_
    refine zT.ic_ge (tgt := 58) dX1_sideOf_4 (by decide) (by first | assumption | exact zq_i _ | exact zand_i _ _ | exact zor_i _ _ | exact zN _ | omega) (by first | assumption | exact zq_i _ | exact zand_i _ _ | exact zor_i _ _ | exact zN _ | omega) (fun c4 => absurd c4 (by decide)) (fun c4 => ?_)
    refine zT.aload_n 0 dX1_sideOf_7 rfl rfl ?_
    refine zT.getF dX1_sideOf_8 fX1_138 rfl (zPan.k hx) (j := 25) (by decide) rfl (zPan.f25 hx) ?_
    refine zT.iconst dX1_sideOf_11 ?_
    refine zT.iload_n 1 dX1_sideOf_12 rfl rfl ?_
    refine zT.imul dX1_sideOf_13 ?_
    refine zT.iload_n 2 dX1_sideOf_14 rfl rfl ?_
    refine zT.iadd dX1_sideOf_15 ?_
    refine zT.iald dX1_sideOf_16 (zPan.a25 hx) (by first | assumption | exact zq_i _ | exact zand_i _ _ | exact zor_i _ _ | exact zN _ | omega) (by rw [(zPan.n25 hx)]; first | assumption | exact zq_i _ | exact zand_i _ _ | exact zor_i _ _ | exact zN _ | omega) (fun z16 => ?_)
    refine zT.if_le (tgt := 52) dX1_sideOf_17 (by decide) (by first | assumption | exact zq_i _ | exact zand_i _ _ | exact zor_i _ _ | exact zN _ | omega) (fun c17 => ?_) (fun c17 => ?_)
    · refine zT.iinc 2 dX1_sideOf_52 rfl (by decide) (zpre1 rfl (zcI _)) ?_
      show zT G _ _ _ [zR x, zI s, zI 2] _ _ _ _ _ _ _
      refine zT.goto (tgt := 2) dX1_sideOf_55 (by decide) ?_
      refine zT.iload_n 2 dX1_sideOf_2 rfl rfl ?_
      refine zT.iconst dX1_sideOf_3 ?_
      refine zT.ic_ge (tgt := 58) dX1_sideOf_4 (by decide) (by first | assumption | exact zq_i _ | exact zand_i _ _ | exact zor_i _ _ | exact zN _ | omega) (by first | assumption | exact zq_i _ | exact zand_i _ _ | exact zor_i _ _ | exact zN _ | omega) (fun c4 => ?_) (fun c4 => absurd c4 (by decide))
      refine zT.aload_n 0 dX1_sideOf_58 rfl rfl ?_
      refine zT.getF dX1_sideOf_59 fX1_138 rfl (zPan.k hx) (j := 25) (by decide) rfl (zPan.f25 hx) ?_
      refine zT.iconst dX1_sideOf_62 ?_
      refine zT.iload_n 1 dX1_sideOf_63 rfl rfl ?_
      refine zT.imul dX1_sideOf_64 ?_
      refine zT.iald dX1_sideOf_65 (zPan.a25 hx) (by first | assumption | exact zq_i _ | exact zand_i _ _ | exact zor_i _ _ | exact zN _ | omega) (by rw [(zPan.n25 hx)]; first | assumption | exact zq_i _ | exact zand_i _ _ | exact zor_i _ _ | exact zN _ | omega) (fun z65 => ?_)
      refine zT.if_le (tgt := 75) dX1_sideOf_66 (by decide) (by first | assumption | exact zq_i _ | exact zand_i _ _ | exact zor_i _ _ | exact zN _ | omega) (fun c66 => ?_) (fun c66 => ?_)
      · refine zT.iconst dX1_sideOf_75 ?_
        refine zT.iload_n 1 dX1_sideOf_76 rfl rfl ?_
        refine zT.imul dX1_sideOf_77 ?_
        refine zT.iconst dX1_sideOf_78 ?_
        refine zT.iadd dX1_sideOf_79 ?_
        refine zT.iret dX1_sideOf_80 rfl ?_
        refine ⟨?_, rfl, rfl⟩
        unfold cSd
        first
          | (exfalso; omega)
          | (rw [if_pos (by omega)]; done)
          | (rw [if_neg (by omega), if_pos (by omega)]; done)
          | (rw [if_neg (by omega), if_neg (by omega), if_pos (by omega)]; done)
          | (rw [if_neg (by omega), if_neg (by omega), if_neg (by omega)]; done)
      · refine zT.iconst dX1_sideOf_69 ?_
        refine zT.iload_n 1 dX1_sideOf_70 rfl rfl ?_
        refine zT.imul dX1_sideOf_71 ?_
        refine zT.goto (tgt := 80) dX1_sideOf_72 (by decide) ?_
        refine zT.iret dX1_sideOf_80 rfl ?_
        refine ⟨?_, rfl, rfl⟩
        unfold cSd
        first
          | (exfalso; omega)
          | (rw [if_pos (by omega)]; done)
          | (rw [if_neg (by omega), if_pos (by omega)]; done)
          | (rw [if_neg (by omega), if_neg (by omega), if_pos (by omega)]; done)
          | (rw [if_neg (by omega), if_neg (by omega), if_neg (by omega)]; done)
    · refine zT.aload_n 0 dX1_sideOf_20 rfl rfl ?_
      refine zT.getF dX1_sideOf_21 fX1_138 rfl (zPan.k hx) (j := 25) (by decide) rfl (zPan.f25 hx) ?_
      refine zT.iconst dX1_sideOf_24 ?_
      refine zT.iload_n 1 dX1_sideOf_25 rfl rfl ?_
      refine zT.imul dX1_sideOf_26 ?_
      refine zT.iload_n 2 dX1_sideOf_27 rfl rfl ?_
      refine zT.iadd dX1_sideOf_28 ?_
      refine zT.iald dX1_sideOf_29 (zPan.a25 hx) (by first | assumption | exact zq_i _ | exact zand_i _ _ | exact zor_i _ _ | exact zN _ | omega) (by rw [(zPan.n25 hx)]; first | assumption | exact zq_i _ | exact zand_i _ _ | exact zor_i _ _ | exact zN _ | omega) (fun z29 => ?_)
      refine zT.aload_n 0 dX1_sideOf_30 rfl rfl ?_
      refine zT.getR dX1_sideOf_31 fX1_66 rfl (zPan.k hx) (j := 7) (by decide) rfl ?_
      rw [h7]
      show zT G _ _ _ _ [zR p, zI (m (x + 39) ((2 * s) + 1))] _ _ _ _ _ _
      refine zT.getF dX1_sideOf_34 fX1_243 rfl (zKit.k hkr.1) (j := 2) (by decide) rfl (zKit.f202 hkr.1) ?_
      refine zT.iconst dX1_sideOf_37 ?_
      refine zT.iload_n 1 dX1_sideOf_38 rfl rfl ?_
      refine zT.imul dX1_sideOf_39 ?_
      refine zT.iload_n 2 dX1_sideOf_40 rfl rfl ?_
      refine zT.iadd dX1_sideOf_41 ?_
      refine zT.iald dX1_sideOf_42 (zKit.a202 hkr.1) (by first | assumption | exact zq_i _ | exact zand_i _ _ | exact zor_i _ _ | exact zN _ | omega) (by rw [(zKit.n202 hkr.1)]; first | assumption | exact zq_i _ | exact zand_i _ _ | exact zor_i _ _ | exact zN _ | omega) (fun z42 => ?_)
      refine zT.ic_ge (tgt := 52) dX1_sideOf_43 (by decide) (by first | assumption | exact zq_i _ | exact zand_i _ _ | exact zor_i _ _ | exact zN _ | omega) (by first | assumption | exact zq_i _ | exact zand_i _ _ | exact zor_i _ _ | exact zN _ | omega) (fun c43 => ?_) (fun c43 => ?_)
      · refine zT.iinc 2 dX1_sideOf_52 rfl (by decide) (zpre1 rfl (zcI _)) ?_
        show zT G _ _ _ [zR x, zI s, zI 2] _ _ _ _ _ _ _
        refine zT.goto (tgt := 2) dX1_sideOf_55 (by decide) ?_
        refine zT.iload_n 2 dX1_sideOf_2 rfl rfl ?_
        refine zT.iconst dX1_sideOf_3 ?_
        refine zT.ic_ge (tgt := 58) dX1_sideOf_4 (by decide) (by first | assumption | exact zq_i _ | exact zand_i _ _ | exact zor_i _ _ | exact zN _ | omega) (by first | assumption | exact zq_i _ | exact zand_i _ _ | exact zor_i _ _ | exact zN _ | omega) (fun c4 => ?_) (fun c4 => absurd c4 (by decide))
        refine zT.aload_n 0 dX1_sideOf_58 rfl rfl ?_
        refine zT.getF dX1_sideOf_59 fX1_138 rfl (zPan.k hx) (j := 25) (by decide) rfl (zPan.f25 hx) ?_
        refine zT.iconst dX1_sideOf_62 ?_
        refine zT.iload_n 1 dX1_sideOf_63 rfl rfl ?_
        refine zT.imul dX1_sideOf_64 ?_
        refine zT.iald dX1_sideOf_65 (zPan.a25 hx) (by first | assumption | exact zq_i _ | exact zand_i _ _ | exact zor_i _ _ | exact zN _ | omega) (by rw [(zPan.n25 hx)]; first | assumption | exact zq_i _ | exact zand_i _ _ | exact zor_i _ _ | exact zN _ | omega) (fun z65 => ?_)
        refine zT.if_le (tgt := 75) dX1_sideOf_66 (by decide) (by first | assumption | exact zq_i _ | exact zand_i _ _ | exact zor_i _ _ | exact zN _ | omega) (fun c66 => ?_) (fun c66 => ?_)
        · refine zT.iconst dX1_sideOf_75 ?_
          refine zT.iload_n 1 dX1_sideOf_76 rfl rfl ?_
          refine zT.imul dX1_sideOf_77 ?_
          refine zT.iconst dX1_sideOf_78 ?_
          refine zT.iadd dX1_sideOf_79 ?_
          refine zT.iret dX1_sideOf_80 rfl ?_
          refine ⟨?_, rfl, rfl⟩
          unfold cSd
          first
            | (exfalso; omega)
            | (rw [if_pos (by omega)]; done)
            | (rw [if_neg (by omega), if_pos (by omega)]; done)
            | (rw [if_neg (by omega), if_neg (by omega), if_pos (by omega)]; done)
            | (rw [if_neg (by omega), if_neg (by omega), if_neg (by omega)]; done)
        · refine zT.iconst dX1_sideOf_69 ?_
          refine zT.iload_n 1 dX1_sideOf_70 rfl rfl ?_
          refine zT.imul dX1_sideOf_71 ?_
          refine zT.goto (tgt := 80) dX1_sideOf_72 (by decide) ?_
          refine zT.iret dX1_sideOf_80 rfl ?_
          refine ⟨?_, rfl, rfl⟩
          unfold cSd
          first
            | (exfalso; omega)
            | (rw [if_pos (by omega)]; done)
            | (rw [if_neg (by omega), if_pos (by omega)]; done)
            | (rw [if_neg (by omega), if_neg (by omega), if_pos (by omega)]; done)
            | (rw [if_neg (by omega), if_neg (by omega), if_neg (by omega)]; done)
      · refine zT.iconst dX1_sideOf_46 ?_
        refine zT.iload_n 1 dX1_sideOf_47 rfl rfl ?_
        refine zT.imul dX1_sideOf_48 ?_
        refine zT.iload_n 2 dX1_sideOf_49 rfl rfl ?_
        refine zT.iadd dX1_sideOf_50 ?_
        refine zT.iret dX1_sideOf_51 rfl ?_
        refine ⟨?_, rfl, rfl⟩
        unfold cSd
        first
          | (exfalso; omega)
          | (rw [if_pos (by omega)]; done)
          | (rw [if_neg (by omega), if_pos (by omega)]; done)
          | (rw [if_neg (by omega), if_neg (by omega), if_pos (by omega)]; done)
          | (rw [if_neg (by omega), if_neg (by omega), if_neg (by omega)]; done)
  · refine zT.aload_n 0 dX1_sideOf_20 rfl rfl ?_
    refine zT.getF dX1_sideOf_21 fX1_138 rfl (zPan.k hx) (j := 25) (by decide) rfl (zPan.f25 hx) ?_
    refine zT.iconst dX1_sideOf_24 ?_
    refine zT.iload_n 1 dX1_sideOf_25 rfl rfl ?_
    refine zT.imul dX1_sideOf_26 ?_
    refine zT.iload_n 2 dX1_sideOf_27 rfl rfl ?_
    refine zT.iadd dX1_sideOf_28 ?_
    refine zT.iald dX1_sideOf_29 (zPan.a25 hx) (by first | assumption | exact zq_i _ | exact zand_i _ _ | exact zor_i _ _ | exact zN _ | omega) (by rw [(zPan.n25 hx)]; first | assumption | exact zq_i _ | exact zand_i _ _ | exact zor_i _ _ | exact zN _ | omega) (fun z29 => ?_)
    refine zT.aload_n 0 dX1_sideOf_30 rfl rfl ?_
    refine zT.getR dX1_sideOf_31 fX1_66 rfl (zPan.k hx) (j := 7) (by decide) rfl ?_
    rw [h7]
    show zT G _ _ _ _ [zR p, zI (m (x + 39) ((2 * s) + 0))] _ _ _ _ _ _
    refine zT.getF dX1_sideOf_34 fX1_243 rfl (zKit.k hkr.1) (j := 2) (by decide) rfl (zKit.f202 hkr.1) ?_
    refine zT.iconst dX1_sideOf_37 ?_
    refine zT.iload_n 1 dX1_sideOf_38 rfl rfl ?_
    refine zT.imul dX1_sideOf_39 ?_
    refine zT.iload_n 2 dX1_sideOf_40 rfl rfl ?_
    refine zT.iadd dX1_sideOf_41 ?_
    refine zT.iald dX1_sideOf_42 (zKit.a202 hkr.1) (by first | assumption | exact zq_i _ | exact zand_i _ _ | exact zor_i _ _ | exact zN _ | omega) (by rw [(zKit.n202 hkr.1)]; first | assumption | exact zq_i _ | exact zand_i _ _ | exact zor_i _ _ | exact zN _ | omega) (fun z42 => ?_)
    refine zT.ic_ge (tgt := 52) dX1_sideOf_43 (by decide) (by first | assumption | exact zq_i _ | exact zand_i _ _ | exact zor_i _ _ | exact zN _ | omega) (by first | assumption | exact zq_i _ | exact zand_i _ _ | exact zor_i _ _ | exact zN _ | omega) (fun c43 => ?_) (fun c43 => ?_)
    · refine zT.iinc 2 dX1_sideOf_52 rfl (by decide) (zpre1 rfl (zcI _)) ?_
      show zT G _ _ _ [zR x, zI s, zI 1] _ _ _ _ _ _ _
      refine zT.goto (tgt := 2) dX1_sideOf_55 (by decide) ?_
      refine zT.iload_n 2 dX1_sideOf_2 rfl rfl ?_
      refine zT.iconst dX1_sideOf_3 ?_
      refine zT.ic_ge (tgt := 58) dX1_sideOf_4 (by decide) (by first | assumption | exact zq_i _ | exact zand_i _ _ | exact zor_i _ _ | exact zN _ | omega) (by first | assumption | exact zq_i _ | exact zand_i _ _ | exact zor_i _ _ | exact zN _ | omega) (fun c4 => absurd c4 (by decide)) (fun c4 => ?_)
      refine zT.aload_n 0 dX1_sideOf_7 rfl rfl ?_
      refine zT.getF dX1_sideOf_8 fX1_138 rfl (zPan.k hx) (j := 25) (by decide) rfl (zPan.f25 hx) ?_
      refine zT.iconst dX1_sideOf_11 ?_
      refine zT.iload_n 1 dX1_sideOf_12 rfl rfl ?_
      refine zT.imul dX1_sideOf_13 ?_
      refine zT.iload_n 2 dX1_sideOf_14 rfl rfl ?_
      refine zT.iadd dX1_sideOf_15 ?_
      refine zT.iald dX1_sideOf_16 (zPan.a25 hx) (by first | assumption | exact zq_i _ | exact zand_i _ _ | exact zor_i _ _ | exact zN _ | omega) (by rw [(zPan.n25 hx)]; first | assumption | exact zq_i _ | exact zand_i _ _ | exact zor_i _ _ | exact zN _ | omega) (fun z16 => ?_)
      refine zT.if_le (tgt := 52) dX1_sideOf_17 (by decide) (by first | assumption | exact zq_i _ | exact zand_i _ _ | exact zor_i _ _ | exact zN _ | omega) (fun c17 => ?_) (fun c17 => ?_)
      · refine zT.iinc 2 dX1_sideOf_52 rfl (by decide) (zpre1 rfl (zcI _)) ?_
        show zT G _ _ _ [zR x, zI s, zI 2] _ _ _ _ _ _ _
        refine zT.goto (tgt := 2) dX1_sideOf_55 (by decide) ?_
        refine zT.iload_n 2 dX1_sideOf_2 rfl rfl ?_
        refine zT.iconst dX1_sideOf_3 ?_
        refine zT.ic_ge (tgt := 58) dX1_sideOf_4 (by decide) (by first | assumption | exact zq_i _ | exact zand_i _ _ | exact zor_i _ _ | exact zN _ | omega) (by first | assumption | exact zq_i _ | exact zand_i _ _ | exact zor_i _ _ | exact zN _ | omega) (fun c4 => ?_) (fun c4 => absurd c4 (by decide))
        refine zT.aload_n 0 dX1_sideOf_58 rfl rfl ?_
        refine zT.getF dX1_sideOf_59 fX1_138 rfl (zPan.k hx) (j := 25) (by decide) rfl (zPan.f25 hx) ?_
        refine zT.iconst dX1_sideOf_62 ?_
        refine zT.iload_n 1 dX1_sideOf_63 rfl rfl ?_
        refine zT.imul dX1_sideOf_64 ?_
        refine zT.iald dX1_sideOf_65 (zPan.a25 hx) (by first | assumption | exact zq_i _ | exact zand_i _ _ | exact zor_i _ _ | exact zN _ | omega) (by rw [(zPan.n25 hx)]; first | assumption | exact zq_i _ | exact zand_i _ _ | exact zor_i _ _ | exact zN _ | omega) (fun z65 => ?_)
        refine zT.if_le (tgt := 75) dX1_sideOf_66 (by decide) (by first | assumption | exact zq_i _ | exact zand_i _ _ | exact zor_i _ _ | exact zN _ | omega) (fun c66 => ?_) (fun c66 => ?_)
        · refine zT.iconst dX1_sideOf_75 ?_
          refine zT.iload_n 1 dX1_sideOf_76 rfl rfl ?_
          refine zT.imul dX1_sideOf_77 ?_
          refine zT.iconst dX1_sideOf_78 ?_
          refine zT.iadd dX1_sideOf_79 ?_
          refine zT.iret dX1_sideOf_80 rfl ?_
          refine ⟨?_, rfl, rfl⟩
          unfold cSd
          first
            | (exfalso; omega)
            | (rw [if_pos (by omega)]; done)
            | (rw [if_neg (by omega), if_pos (by omega)]; done)
            | (rw [if_neg (by omega), if_neg (by omega), if_pos (by omega)]; done)
            | (rw [if_neg (by omega), if_neg (by omega), if_neg (by omega)]; done)
        · refine zT.iconst dX1_sideOf_69 ?_
          refine zT.iload_n 1 dX1_sideOf_70 rfl rfl ?_
          refine zT.imul dX1_sideOf_71 ?_
          refine zT.goto (tgt := 80) dX1_sideOf_72 (by decide) ?_
          refine zT.iret dX1_sideOf_80 rfl ?_
          refine ⟨?_, rfl, rfl⟩
          unfold cSd
          first
            | (exfalso; omega)
            | (rw [if_pos (by omega)]; done)
            | (rw [if_neg (by omega), if_pos (by omega)]; done)
            | (rw [if_neg (by omega), if_neg (by omega), if_pos (by omega)]; done)
            | (rw [if_neg (by omega), if_neg (by omega), if_neg (by omega)]; done)
      · refine zT.aload_n 0 dX1_sideOf_20 rfl rfl ?_
        refine zT.getF dX1_sideOf_21 fX1_138 rfl (zPan.k hx) (j := 25) (by decide) rfl (zPan.f25 hx) ?_
        refine zT.iconst dX1_sideOf_24 ?_
        refine zT.iload_n 1 dX1_sideOf_25 rfl rfl ?_
        refine zT.imul dX1_sideOf_26 ?_
        refine zT.iload_n 2 dX1_sideOf_27 rfl rfl ?_
        refine zT.iadd dX1_sideOf_28 ?_
        refine zT.iald dX1_sideOf_29 (zPan.a25 hx) (by first | assumption | exact zq_i _ | exact zand_i _ _ | exact zor_i _ _ | exact zN _ | omega) (by rw [(zPan.n25 hx)]; first | assumption | exact zq_i _ | exact zand_i _ _ | exact zor_i _ _ | exact zN _ | omega) (fun z29 => ?_)
        refine zT.aload_n 0 dX1_sideOf_30 rfl rfl ?_
        refine zT.getR dX1_sideOf_31 fX1_66 rfl (zPan.k hx) (j := 7) (by decide) rfl ?_
        rw [h7]
        show zT G _ _ _ _ [zR p, zI (m (x + 39) ((2 * s) + 1))] _ _ _ _ _ _
        refine zT.getF dX1_sideOf_34 fX1_243 rfl (zKit.k hkr.1) (j := 2) (by decide) rfl (zKit.f202 hkr.1) ?_
        refine zT.iconst dX1_sideOf_37 ?_
        refine zT.iload_n 1 dX1_sideOf_38 rfl rfl ?_
        refine zT.imul dX1_sideOf_39 ?_
        refine zT.iload_n 2 dX1_sideOf_40 rfl rfl ?_
        refine zT.iadd dX1_sideOf_41 ?_
        refine zT.iald dX1_sideOf_42 (zKit.a202 hkr.1) (by first | assumption | exact zq_i _ | exact zand_i _ _ | exact zor_i _ _ | exact zN _ | omega) (by rw [(zKit.n202 hkr.1)]; first | assumption | exact zq_i _ | exact zand_i _ _ | exact zor_i _ _ | exact zN _ | omega) (fun z42 => ?_)
        refine zT.ic_ge (tgt := 52) dX1_sideOf_43 (by decide) (by first | assumption | exact zq_i _ | exact zand_i _ _ | exact zor_i _ _ | exact zN _ | omega) (by first | assumption | exact zq_i _ | exact zand_i _ _ | exact zor_i _ _ | exact zN _ | omega) (fun c43 => ?_) (fun c43 => ?_)
        · refine zT.iinc 2 dX1_sideOf_52 rfl (by decide) (zpre1 rfl (zcI _)) ?_
          show zT G _ _ _ [zR x, zI s, zI 2] _ _ _ _ _ _ _
          refine zT.goto (tgt := 2) dX1_sideOf_55 (by decide) ?_
          refine zT.iload_n 2 dX1_sideOf_2 rfl rfl ?_
          refine zT.iconst dX1_sideOf_3 ?_
          refine zT.ic_ge (tgt := 58) dX1_sideOf_4 (by decide) (by first | assumption | exact zq_i _ | exact zand_i _ _ | exact zor_i _ _ | exact zN _ | omega) (by first | assumption | exact zq_i _ | exact zand_i _ _ | exact zor_i _ _ | exact zN _ | omega) (fun c4 => ?_) (fun c4 => absurd c4 (by decide))
          refine zT.aload_n 0 dX1_sideOf_58 rfl rfl ?_
          refine zT.getF dX1_sideOf_59 fX1_138 rfl (zPan.k hx) (j := 25) (by decide) rfl (zPan.f25 hx) ?_
          refine zT.iconst dX1_sideOf_62 ?_
          refine zT.iload_n 1 dX1_sideOf_63 rfl rfl ?_
          refine zT.imul dX1_sideOf_64 ?_
          refine zT.iald dX1_sideOf_65 (zPan.a25 hx) (by first | assumption | exact zq_i _ | exact zand_i _ _ | exact zor_i _ _ | exact zN _ | omega) (by rw [(zPan.n25 hx)]; first | assumption | exact zq_i _ | exact zand_i _ _ | exact zor_i _ _ | exact zN _ | omega) (fun z65 => ?_)
          refine zT.if_le (tgt := 75) dX1_sideOf_66 (by decide) (by first | assumption | exact zq_i _ | exact zand_i _ _ | exact zor_i _ _ | exact zN _ | omega) (fun c66 => ?_) (fun c66 => ?_)
          · refine zT.iconst dX1_sideOf_75 ?_
            refine zT.iload_n 1 dX1_sideOf_76 rfl rfl ?_
            refine zT.imul dX1_sideOf_77 ?_
            refine zT.iconst dX1_sideOf_78 ?_
            refine zT.iadd dX1_sideOf_79 ?_
            refine zT.iret dX1_sideOf_80 rfl ?_
            refine ⟨?_, rfl, rfl⟩
            unfold cSd
            first
              | (exfalso; omega)
              | (rw [if_pos (by omega)]; done)
              | (rw [if_neg (by omega), if_pos (by omega)]; done)
              | (rw [if_neg (by omega), if_neg (by omega), if_pos (by omega)]; done)
              | (rw [if_neg (by omega), if_neg (by omega), if_neg (by omega)]; done)
          · refine zT.iconst dX1_sideOf_69 ?_
            refine zT.iload_n 1 dX1_sideOf_70 rfl rfl ?_
            refine zT.imul dX1_sideOf_71 ?_
            refine zT.goto (tgt := 80) dX1_sideOf_72 (by decide) ?_
            refine zT.iret dX1_sideOf_80 rfl ?_
            refine ⟨?_, rfl, rfl⟩
            unfold cSd
            first
              | (exfalso; omega)
              | (rw [if_pos (by omega)]; done)
              | (rw [if_neg (by omega), if_pos (by omega)]; done)
              | (rw [if_neg (by omega), if_neg (by omega), if_pos (by omega)]; done)
              | (rw [if_neg (by omega), if_neg (by omega), if_neg (by omega)]; done)
        · refine zT.iconst dX1_sideOf_46 ?_
          refine zT.iload_n 1 dX1_sideOf_47 rfl rfl ?_
          refine zT.imul dX1_sideOf_48 ?_
          refine zT.iload_n 2 dX1_sideOf_49 rfl rfl ?_
          refine zT.iadd dX1_sideOf_50 ?_
          refine zT.iret dX1_sideOf_51 rfl ?_
          refine ⟨?_, rfl, rfl⟩
          unfold cSd
          first
            | (exfalso; omega)
            | (rw [if_pos (by omega)]; done)
            | (rw [if_neg (by omega), if_pos (by omega)]; done)
            | (rw [if_neg (by omega), if_neg (by omega), if_pos (by omega)]; done)
            | (rw [if_neg (by omega), if_neg (by omega), if_neg (by omega)]; done)
    · refine zT.iconst dX1_sideOf_46 ?_
      refine zT.iload_n 1 dX1_sideOf_47 rfl rfl ?_
      refine zT.imul dX1_sideOf_48 ?_
      refine zT.iload_n 2 dX1_sideOf_49 rfl rfl ?_
      refine zT.iadd dX1_sideOf_50 ?_
      refine zT.iret dX1_sideOf_51 rfl ?_
      refine ⟨?_, rfl, rfl⟩
      unfold cSd
      first
        | (exfalso; omega)
        | (rw [if_pos (by omega)]; done)
        | (rw [if_neg (by omega), if_pos (by omega)]; done)
        | (rw [if_neg (by omega), if_neg (by omega), if_pos (by omega)]; done)
        | (rw [if_neg (by omega), if_neg (by omega), if_neg (by omega)]; done)

theorem C_X1_isOn {G : zG} {S : zS} {m : zMm} {x p : Int} {K L O W Y : Int → Int} (hx : zPan S x) (h7 : m x 7 = p) (hkr : zKR S m p K) (hk : zKV K) (hL : ∀ j, 0 ≤ j → j < 16 → m (x + 39) j = L j) (hLb : ∀ j, 0 ≤ j → j < 16 → 0 ≤ L j ∧ L j ≤ 20) (hO : ∀ j, 0 ≤ j → j < 16 → m (x + 40) j = O j) (hOb : ∀ j, 0 ≤ j → j < 16 → 0 ≤ O j ∧ O j ≤ 100000) (hY : ∀ j, 0 ≤ j → j < K 0 → m (x + 41) j = Y j) (hYb : ∀ j, 0 ≤ j → j < K 0 → -1 ≤ Y j ∧ Y j < 16) (hW : ∀ j, 0 ≤ j → j < K 0 → m (x + 42) j = W j) {s : Int} (hs : zi s) : zC G mX1_isOn 0 0 0 [zR x, zI s] S m (zDet (some (zI (zq (cOn Y (K 0) s)))) S m) zNX := by
  have hkf := hkr.2.1
  have hk0 := hk.1
  refine zC.of [zR x, zI s, zU] (by decide) rfl (zEn1 (zcR _) (zEn1 (zcI _) (zEn0 (by simp)))) rfl ?_
  refine zT.iconst dX1_isOn_0 ?_
  refine zT.istore_n 2 dX1_isOn_1 rfl (by decide) (zpre1 rfl (zcI _)) ?_
  show zT G _ _ _ [zR x, zI s, zI 0] _ _ _ _ _ _ _
  have L2 : ∀ (N : Nat) (j : Int), (0 ≤ j) → (j ≤ K 0) → (∀ i, 0 ≤ i → i < j → ¬ (Y i ≠ -1 ∧ Y i / 2 = s)) → ((K 0 - j).toNat) < N → zT G mX1_isOn 0 2 [zR x, zI s, zI j] [] S m 0 0 (zDet (some (zI (zq (cOn Y (K 0) s)))) S m) zNX := by
    intro N
    induction N with
    | zero => intro j j0 j1 hz hN; exact absurd hN (Nat.not_lt_zero _)
    | succ N ih2 =>
      intro j j0 j1 hz hN
      refine zT.iload_n 2 dX1_isOn_2 rfl rfl ?_
      refine zT.aload_n 0 dX1_isOn_3 rfl rfl ?_
      refine zT.getR dX1_isOn_4 fX1_66 rfl (zPan.k hx) (j := 7) (by decide) rfl ?_
      rw [h7]
      show zT G _ _ _ _ [zR p, zI j] _ _ _ _ _ _
      refine zT.getI dX1_isOn_7 fX1_332 rfl (zKit.k hkr.1) (j := 11) (by decide) rfl (fun z7 => ?_)
      refine zT.ic_ge (tgt := 43) dX1_isOn_10 (by decide) (by first | assumption | exact zq_i _ | exact zand_i _ _ | exact zor_i _ _ | exact zN _ | omega) (by first | assumption | exact zq_i _ | exact zand_i _ _ | exact zor_i _ _ | exact zN _ | omega) (fun c10 => ?_) (fun c10 => ?_)
      · refine zT.iconst dX1_isOn_43 ?_
        refine zT.zret dX1_isOn_44 rfl (by omega) ?_
        rw [zq_f (fun z => by obtain ⟨i, i0, i1, i2, i3⟩ := z; exact hz i i0 (by omega) ⟨i2, i3⟩)]; exact ⟨rfl, rfl, rfl⟩
      · have n9 := hY j j0 (by omega)
        have nb9 := hYb j j0 (by omega)
        refine zT.aload_n 0 dX1_isOn_13 rfl rfl ?_
        refine zT.getF dX1_isOn_14 fX1_144 rfl (zPan.k hx) (j := 27) (by decide) rfl (zPan.f27 hx) ?_
        refine zT.iload_n 2 dX1_isOn_17 rfl rfl ?_
        refine zT.iald dX1_isOn_18 (zPan.a27 hx) (by first | assumption | exact zq_i _ | exact zand_i _ _ | exact zor_i _ _ | exact zN _ | omega) (by rw [(zPan.n27 hx)]; first | assumption | exact zq_i _ | exact zand_i _ _ | exact zor_i _ _ | exact zN _ | omega) (fun z18 => ?_)
        refine zT.iconst dX1_isOn_19 ?_
        refine zT.ic_eq (tgt := 37) dX1_isOn_20 (by decide) (by first | assumption | exact zq_i _ | exact zand_i _ _ | exact zor_i _ _ | exact zN _ | omega) (by first | assumption | exact zq_i _ | exact zand_i _ _ | exact zor_i _ _ | exact zN _ | omega) (fun c20 => ?_) (fun c20 => ?_)
        · refine zT.iinc 2 dX1_isOn_37 rfl (by decide) (zpre1 rfl (zcI _)) ?_
          show zT G _ _ _ [zR x, zI s, zI (j + 1)] _ _ _ _ _ _ _
          refine zT.goto (tgt := 2) dX1_isOn_40 (by decide) ?_
          exact ih2 _ (by first | assumption | exact zq_i _ | exact zand_i _ _ | exact zor_i _ _ | exact zN _ | omega) (by first | assumption | exact zq_i _ | exact zand_i _ _ | exact zor_i _ _ | exact zN _ | omega) (by exact zal_s hz (by omega)) (by omega)
        · refine zT.aload_n 0 dX1_isOn_23 rfl rfl ?_
          refine zT.getF dX1_isOn_24 fX1_144 rfl (zPan.k hx) (j := 27) (by decide) rfl (zPan.f27 hx) ?_
          refine zT.iload_n 2 dX1_isOn_27 rfl rfl ?_
          refine zT.iald dX1_isOn_28 (zPan.a27 hx) (by first | assumption | exact zq_i _ | exact zand_i _ _ | exact zor_i _ _ | exact zN _ | omega) (by rw [(zPan.n27 hx)]; first | assumption | exact zq_i _ | exact zand_i _ _ | exact zor_i _ _ | exact zN _ | omega) (fun z28 => ?_)
          refine zT.iconst dX1_isOn_29 ?_
          refine zT.idiv dX1_isOn_30 (by first | assumption | exact zq_i _ | exact zand_i _ _ | exact zor_i _ _ | exact zN _ | omega) (by first | assumption | exact zq_i _ | exact zand_i _ _ | exact zor_i _ _ | exact zN _ | omega) (by first | assumption | exact zq_i _ | exact zand_i _ _ | exact zor_i _ _ | exact zN _ | omega) (by first | assumption | exact zq_i _ | exact zand_i _ _ | exact zor_i _ _ | exact zN _ | omega) ?_
          refine zT.iload_n 1 dX1_isOn_31 rfl rfl ?_
          refine zT.ic_ne (tgt := 37) dX1_isOn_32 (by decide) (by first | assumption | exact zq_i _ | exact zand_i _ _ | exact zor_i _ _ | exact zN _ | omega) (by first | assumption | exact zq_i _ | exact zand_i _ _ | exact zor_i _ _ | exact zN _ | omega) (fun c32 => ?_) (fun c32 => ?_)
          · refine zT.iinc 2 dX1_isOn_37 rfl (by decide) (zpre1 rfl (zcI _)) ?_
            show zT G _ _ _ [zR x, zI s, zI (j + 1)] _ _ _ _ _ _ _
            refine zT.goto (tgt := 2) dX1_isOn_40 (by decide) ?_
            exact ih2 _ (by first | assumption | exact zq_i _ | exact zand_i _ _ | exact zor_i _ _ | exact zN _ | omega) (by first | assumption | exact zq_i _ | exact zand_i _ _ | exact zor_i _ _ | exact zN _ | omega) (by exact zal_s hz (by omega)) (by omega)
          · refine zT.iconst dX1_isOn_35 ?_
            refine zT.zret dX1_isOn_36 rfl (by omega) ?_
            rw [zq_t (show cOn Y (K 0) s from ⟨j, j0, by omega, by omega, by omega⟩)]; exact ⟨rfl, rfl, rfl⟩
  exact L2 _ _ (by first | assumption | exact zq_i _ | exact zand_i _ _ | exact zor_i _ _ | exact zN _ | omega) (by first | assumption | exact zq_i _ | exact zand_i _ _ | exact zor_i _ _ | exact zN _ | omega) (by exact zal_0) (Nat.lt_succ_self _)

theorem C_X1_canGo {G : zG} {S : zS} {m : zMm} {x p : Int} {K L O W Y : Int → Int} (hx : zPan S x) (h7 : m x 7 = p) (hkr : zKR S m p K) (hk : zKV K) (hL : ∀ j, 0 ≤ j → j < 16 → m (x + 39) j = L j) (hLb : ∀ j, 0 ≤ j → j < 16 → 0 ≤ L j ∧ L j ≤ 20) (hO : ∀ j, 0 ≤ j → j < 16 → m (x + 40) j = O j) (hOb : ∀ j, 0 ≤ j → j < 16 → 0 ≤ O j ∧ O j ≤ 100000) (hY : ∀ j, 0 ≤ j → j < K 0 → m (x + 41) j = Y j) (hYb : ∀ j, 0 ≤ j → j < K 0 → -1 ≤ Y j ∧ Y j < 16) (hW : ∀ j, 0 ≤ j → j < K 0 → m (x + 42) j = W j) {s t : Int} (s0 : 0 ≤ s) (s1 : s < 8) (ht : 0 ≤ t ∧ t ≤ 100000) : zC G mX1_canGo 1 0 0 [zR x, zI s, zI t] S m (zDet (some (zI (zq (cGo K L O Y t s)))) S m) zNX := by
  have hkf := hkr.2.1
  have hk0 := hk.1
  have l1 := hL (2 * s + 1) (by omega) (by omega)
  have l2 := hL (2 * s) (by omega) (by omega)
  have b0 := hLb (2 * s) (by omega) (by omega)
  have b1 := hLb (2 * s + 1) (by omega) (by omega)
  have hsb := cSd_b (K := K) (L := L) (s := s)
  have hot := cOt_b (j := cSd K L s) (by omega) (by omega)
  refine zC.of [zR x, zI s, zI t, zU] (by decide) rfl (zEn1 (zcR _) (zEn1 (zcI _) (zEn1 (zcI _) (zEn0 (by simp))))) rfl ?_
  refine zT.aload_n 0 dX1_canGo_0 rfl rfl ?_
  refine zT.iload_n 1 dX1_canGo_1 rfl rfl ?_
  refine zT.callV (M' := mX1_isOn) (b := x) [zI s] [] dX1_canGo_2 kX1_390 rfl rfl (ci := 0) (r := (RX1, TX1, 42)) rfl (zPan.k hx) (C_X1_isOn hx h7 hkr hk hL hLb hO hOb hY hYb hW (by omega)) (by decide) (k' := 0) (n' := 0) (by omega) (by omega) (by decide) (zdk (v := some (zI (zq (cOn Y (K 0) s)))) ?_) (fun _ _ _ _ h => h.elim)
  show zT G _ _ _ _ [zI (zq (cOn Y (K 0) s))] _ _ _ _ _ _
  refine zT.if_neB (tgt := 30) dX1_canGo_5 (by decide) (fun c5 => ?_) (fun c5 => ?_)
  · refine zT.iconst dX1_canGo_30 ?_
    refine zT.zret dX1_canGo_31 rfl (by omega) ?_
    first
      | (rw [zq_t (show cGo K L O Y t s from ⟨by assumption, by omega, by omega⟩)]; exact ⟨rfl, rfl, rfl⟩)
      | (rw [zq_f (fun z => absurd (show cOn Y (K 0) s by assumption) z.1)]; exact ⟨rfl, rfl, rfl⟩)
      | (rw [zq_f (fun z => by have z1 := z.2.1; have z2 := z.2.2; omega)]; exact ⟨rfl, rfl, rfl⟩)
  · refine zT.aload_n 0 dX1_canGo_8 rfl rfl ?_
    refine zT.getF dX1_canGo_9 fX1_138 rfl (zPan.k hx) (j := 25) (by decide) rfl (zPan.f25 hx) ?_
    refine zT.iconst dX1_canGo_12 ?_
    refine zT.iload_n 1 dX1_canGo_13 rfl rfl ?_
    refine zT.imul dX1_canGo_14 ?_
    refine zT.iald dX1_canGo_15 (zPan.a25 hx) (by first | assumption | exact zq_i _ | exact zand_i _ _ | exact zor_i _ _ | exact zN _ | omega) (by rw [(zPan.n25 hx)]; first | assumption | exact zq_i _ | exact zand_i _ _ | exact zor_i _ _ | exact zN _ | omega) (fun z15 => ?_)
    refine zT.aload_n 0 dX1_canGo_16 rfl rfl ?_
    refine zT.getF dX1_canGo_17 fX1_138 rfl (zPan.k hx) (j := 25) (by decide) rfl (zPan.f25 hx) ?_
    refine zT.iconst dX1_canGo_20 ?_
    refine zT.iload_n 1 dX1_canGo_21 rfl rfl ?_
    refine zT.imul dX1_canGo_22 ?_
    refine zT.iconst dX1_canGo_23 ?_
    refine zT.iadd dX1_canGo_24 ?_
    refine zT.iald dX1_canGo_25 (zPan.a25 hx) (by first | assumption | exact zq_i _ | exact zand_i _ _ | exact zor_i _ _ | exact zN _ | omega) (by rw [(zPan.n25 hx)]; first | assumption | exact zq_i _ | exact zand_i _ _ | exact zor_i _ _ | exact zN _ | omega) (fun z25 => ?_)
    refine zT.iadd dX1_canGo_26 ?_
    refine zT.if_ne (tgt := 32) dX1_canGo_27 (by decide) (by first | assumption | exact zq_i _ | exact zand_i _ _ | exact zor_i _ _ | exact zN _ | omega) (fun c27 => ?_) (fun c27 => ?_)
    · refine zT.aload_n 0 dX1_canGo_32 rfl rfl ?_
      refine zT.iload_n 1 dX1_canGo_33 rfl rfl ?_
      refine zT.callV (M' := mX1_sideOf) (b := x) [zI s] [] dX1_canGo_34 kX1_393 rfl rfl (ci := 0) (r := (RX1, TX1, 42)) rfl (zPan.k hx) (C_X1_sideOf hx h7 hkr hk hL hLb hO hOb hY hYb hW (by omega) (by omega)) (by decide) (k' := 0) (n' := 0) (by omega) (by omega) (by decide) (zdk (v := some (zI (cSd K L s))) ?_) (fun _ _ _ _ h => h.elim)
      show zT G _ _ _ _ [zI (cSd K L s)] _ _ _ _ _ _
      refine zT.iconst dX1_canGo_37 ?_
      refine zT.ixor dX1_canGo_38 ?_
      rw [cOt_i (by omega) (by omega)]
      show zT G _ _ _ _ [zI (cOt (cSd K L s))] _ _ _ _ _ _
      have o9 := hO (cOt (cSd K L s)) hot.1 hot.2.1
      have ob9 := hOb (cOt (cSd K L s)) hot.1 hot.2.1
      refine zT.istore_n 3 dX1_canGo_39 rfl (by decide) (zpre1 rfl (zcI _)) ?_
      show zT G _ _ _ [zR x, zI s, zI t, zI (cOt (cSd K L s))] _ _ _ _ _ _ _
      refine zT.aload_n 0 dX1_canGo_40 rfl rfl ?_
      refine zT.getF dX1_canGo_41 fX1_141 rfl (zPan.k hx) (j := 26) (by decide) rfl (zPan.f26 hx) ?_
      refine zT.iload_n 3 dX1_canGo_44 rfl rfl ?_
      refine zT.iald dX1_canGo_45 (zPan.a26 hx) (by first | assumption | exact zq_i _ | exact zand_i _ _ | exact zor_i _ _ | exact zN _ | omega) (by rw [(zPan.n26 hx)]; first | assumption | exact zq_i _ | exact zand_i _ _ | exact zor_i _ _ | exact zN _ | omega) (fun z45 => ?_)
      refine zT.if_eq (tgt := 67) dX1_canGo_46 (by decide) (by first | assumption | exact zq_i _ | exact zand_i _ _ | exact zor_i _ _ | exact zN _ | omega) (fun c46 => ?_) (fun c46 => ?_)
      · refine zT.iconst dX1_canGo_67 ?_
        refine zT.goto (tgt := 72) dX1_canGo_68 (by decide) ?_
        refine zT.zret dX1_canGo_72 rfl (by omega) ?_
        first
          | (rw [zq_t (show cGo K L O Y t s from ⟨by assumption, by omega, by omega⟩)]; exact ⟨rfl, rfl, rfl⟩)
          | (rw [zq_f (fun z => absurd (show cOn Y (K 0) s by assumption) z.1)]; exact ⟨rfl, rfl, rfl⟩)
          | (rw [zq_f (fun z => by have z1 := z.2.1; have z2 := z.2.2; omega)]; exact ⟨rfl, rfl, rfl⟩)
      · refine zT.iload_n 2 dX1_canGo_49 rfl rfl ?_
        refine zT.aload_n 0 dX1_canGo_50 rfl rfl ?_
        refine zT.getF dX1_canGo_51 fX1_141 rfl (zPan.k hx) (j := 26) (by decide) rfl (zPan.f26 hx) ?_
        refine zT.iload_n 3 dX1_canGo_54 rfl rfl ?_
        refine zT.iald dX1_canGo_55 (zPan.a26 hx) (by first | assumption | exact zq_i _ | exact zand_i _ _ | exact zor_i _ _ | exact zN _ | omega) (by rw [(zPan.n26 hx)]; first | assumption | exact zq_i _ | exact zand_i _ _ | exact zor_i _ _ | exact zN _ | omega) (fun z55 => ?_)
        refine zT.isub dX1_canGo_56 ?_
        refine zT.aload_n 0 dX1_canGo_57 rfl rfl ?_
        refine zT.getR dX1_canGo_58 fX1_66 rfl (zPan.k hx) (j := 7) (by decide) rfl ?_
        rw [h7]
        show zT G _ _ _ _ [zR p, zI (t - (m (x + 40) (cOt (cSd K L s))))] _ _ _ _ _ _
        refine zT.getI dX1_canGo_61 fX1_370 rfl (zKit.k hkr.1) (j := 12) (by decide) rfl (fun z61 => ?_)
        refine zT.ic_lt (tgt := 71) dX1_canGo_64 (by decide) (by first | assumption | exact zq_i _ | exact zand_i _ _ | exact zor_i _ _ | exact zN _ | omega) (by first | assumption | exact zq_i _ | exact zand_i _ _ | exact zor_i _ _ | exact zN _ | omega) (fun c64 => ?_) (fun c64 => ?_)
        · refine zT.iconst dX1_canGo_71 ?_
          refine zT.zret dX1_canGo_72 rfl (by omega) ?_
          first
            | (rw [zq_t (show cGo K L O Y t s from ⟨by assumption, by omega, by omega⟩)]; exact ⟨rfl, rfl, rfl⟩)
            | (rw [zq_f (fun z => absurd (show cOn Y (K 0) s by assumption) z.1)]; exact ⟨rfl, rfl, rfl⟩)
            | (rw [zq_f (fun z => by have z1 := z.2.1; have z2 := z.2.2; omega)]; exact ⟨rfl, rfl, rfl⟩)
        · refine zT.iconst dX1_canGo_67 ?_
          refine zT.goto (tgt := 72) dX1_canGo_68 (by decide) ?_
          refine zT.zret dX1_canGo_72 rfl (by omega) ?_
          first
            | (rw [zq_t (show cGo K L O Y t s from ⟨by assumption, by omega, by omega⟩)]; exact ⟨rfl, rfl, rfl⟩)
            | (rw [zq_f (fun z => absurd (show cOn Y (K 0) s by assumption) z.1)]; exact ⟨rfl, rfl, rfl⟩)
            | (rw [zq_f (fun z => by have z1 := z.2.1; have z2 := z.2.2; omega)]; exact ⟨rfl, rfl, rfl⟩)
    · refine zT.iconst dX1_canGo_30 ?_
      refine zT.zret dX1_canGo_31 rfl (by omega) ?_
      first
        | (rw [zq_t (show cGo K L O Y t s from ⟨by assumption, by omega, by omega⟩)]; exact ⟨rfl, rfl, rfl⟩)
        | (rw [zq_f (fun z => absurd (show cOn Y (K 0) s by assumption) z.1)]; exact ⟨rfl, rfl, rfl⟩)
        | (rw [zq_f (fun z => by have z1 := z.2.1; have z2 := z.2.2; omega)]; exact ⟨rfl, rfl, rfl⟩)

theorem C_X1_freePlace {G : zG} {S : zS} {m : zMm} {x p : Int} {K L O W Y : Int → Int} (hx : zPan S x) (h7 : m x 7 = p) (hkr : zKR S m p K) (hk : zKV K) (hL : ∀ j, 0 ≤ j → j < 16 → m (x + 39) j = L j) (hLb : ∀ j, 0 ≤ j → j < 16 → 0 ≤ L j ∧ L j ≤ 20) (hO : ∀ j, 0 ≤ j → j < 16 → m (x + 40) j = O j) (hOb : ∀ j, 0 ≤ j → j < 16 → 0 ≤ O j ∧ O j ≤ 100000) (hY : ∀ j, 0 ≤ j → j < K 0 → m (x + 41) j = Y j) (hYb : ∀ j, 0 ≤ j → j < K 0 → -1 ≤ Y j ∧ Y j < 16) (hW : ∀ j, 0 ≤ j → j < K 0 → m (x + 42) j = W j) {d : Int} (hd : zi d) (hu : ∀ q r, 0 ≤ q → q < K 0 → 0 ≤ r → r < K 0 → W q = d → W r = d → q = r) : zC G mX1_freePlace 0 0 0 [zR x, zI d] S m (zDet (some (zI (cFp Y W (K 0) d))) S m) zNX := by
  have hkf := hkr.2.1
  have hk0 := hk.1
  refine zC.of [zR x, zI d, zU, zU] (by decide) rfl (zEn1 (zcR _) (zEn1 (zcI _) (zEn0 (by simp)))) rfl ?_
  refine zT.iconst dX1_freePlace_0 ?_
  refine zT.istore_n 2 dX1_freePlace_1 rfl (by decide) (zpre1 rfl (zcI _)) ?_
  show zT G _ _ _ [zR x, zI d, zI (-1), zU] _ _ _ _ _ _ _
  refine zT.aload_n 0 dX1_freePlace_2 rfl rfl ?_
  refine zT.getR dX1_freePlace_3 fX1_66 rfl (zPan.k hx) (j := 7) (by decide) rfl ?_
  rw [h7]
  show zT G _ _ _ _ [zR p] _ _ _ _ _ _
  refine zT.getI dX1_freePlace_6 fX1_332 rfl (zKit.k hkr.1) (j := 11) (by decide) rfl (fun z6 => ?_)
  refine zT.iconst dX1_freePlace_9 ?_
  refine zT.isub dX1_freePlace_10 ?_
  refine zT.istore_n 3 dX1_freePlace_11 rfl (by decide) (zpre1 rfl (zcI _)) ?_
  show zT G _ _ _ [zR x, zI d, zI (-1), zI ((m p 211) - 1)] _ _ _ _ _ _ _
  have L12 : ∀ (N : Nat) (j : Int) (l : Int), (-1 ≤ j) → (j < K 0) → (∀ i, j < i → i < K 0 → ¬ (Y i = -1 ∧ W i = d)) → ((l = -1 ∧ ∀ i, j < i → i < K 0 → Y i ≠ -1) ∨ (j < l ∧ l < K 0 ∧ Y l = -1 ∧ ∀ i, j < i → i < l → Y i ≠ -1)) → ((j + 1).toNat) < N → zT G mX1_freePlace 0 12 [zR x, zI d, zI l, zI j] [] S m 0 0 (zDet (some (zI (cFp Y W (K 0) d))) S m) zNX := by
    intro N
    induction N with
    | zero => intro j l j0 j1 hm hl hN; exact absurd hN (Nat.not_lt_zero _)
    | succ N ih12 =>
      intro j l j0 j1 hm hl hN
      refine zT.iload_n 3 dX1_freePlace_12 rfl rfl ?_
      refine zT.if_lt (tgt := 49) dX1_freePlace_13 (by decide) (by first | assumption | exact zq_i _ | exact zand_i _ _ | exact zor_i _ _ | exact zN _ | omega) (fun c13 => ?_) (fun c13 => ?_)
      · refine zT.iload_n 2 dX1_freePlace_49 rfl rfl ?_
        refine zT.iret dX1_freePlace_50 rfl ?_
        refine ⟨?_, rfl, rfl⟩
        have hj : j = -1 := by omega
        rw [hj] at hm hl
        rw [cFp_l (l := l) (by omega) (fun p a b => hm p (by omega) b) (by
          rcases hl with ⟨e, q⟩ | ⟨a, b, c, q⟩
          · exact Or.inl ⟨e, fun p a b => q p (by omega) b⟩
          · exact Or.inr ⟨by omega, b, c, fun p a b => q p (by omega) b⟩)]
      · have n9 := hY j (by omega) j1
        have nb9 := hYb j (by omega) j1
        have w9 := hW j (by omega) j1
        refine zT.aload_n 0 dX1_freePlace_16 rfl rfl ?_
        refine zT.getF dX1_freePlace_17 fX1_144 rfl (zPan.k hx) (j := 27) (by decide) rfl (zPan.f27 hx) ?_
        refine zT.iload_n 3 dX1_freePlace_20 rfl rfl ?_
        refine zT.iald dX1_freePlace_21 (zPan.a27 hx) (by first | assumption | exact zq_i _ | exact zand_i _ _ | exact zor_i _ _ | exact zN _ | omega) (by rw [(zPan.n27 hx)]; first | assumption | exact zq_i _ | exact zand_i _ _ | exact zor_i _ _ | exact zN _ | omega) (fun z21 => ?_)
        refine zT.iconst dX1_freePlace_22 ?_
        refine zT.ic_eq (tgt := 29) dX1_freePlace_23 (by decide) (by first | assumption | exact zq_i _ | exact zand_i _ _ | exact zor_i _ _ | exact zN _ | omega) (by first | assumption | exact zq_i _ | exact zand_i _ _ | exact zor_i _ _ | exact zN _ | omega) (fun c23 => ?_) (fun c23 => ?_)
        · refine zT.aload_n 0 dX1_freePlace_29 rfl rfl ?_
          refine zT.getF dX1_freePlace_30 fX1_147 rfl (zPan.k hx) (j := 28) (by decide) rfl (zPan.f28 hx) ?_
          refine zT.iload_n 3 dX1_freePlace_33 rfl rfl ?_
          refine zT.iald dX1_freePlace_34 (zPan.a28 hx) (by first | assumption | exact zq_i _ | exact zand_i _ _ | exact zor_i _ _ | exact zN _ | omega) (by rw [(zPan.n28 hx)]; first | assumption | exact zq_i _ | exact zand_i _ _ | exact zor_i _ _ | exact zN _ | omega) (fun z34 => ?_)
          refine zT.iload_n 1 dX1_freePlace_35 rfl rfl ?_
          refine zT.ic_ne (tgt := 41) dX1_freePlace_36 (by decide) (by first | assumption | exact zq_i _ | exact zand_i _ _ | exact zor_i _ _ | exact zN _ | omega) (by first | assumption | exact zq_i _ | exact zand_i _ _ | exact zor_i _ _ | exact zN _ | omega) (fun c36 => ?_) (fun c36 => ?_)
          · refine zT.iload_n 3 dX1_freePlace_41 rfl rfl ?_
            refine zT.istore_n 2 dX1_freePlace_42 rfl (by decide) (zpre1 rfl (zcI _)) ?_
            show zT G _ _ _ [zR x, zI d, zI j, zI j] _ _ _ _ _ _ _
            refine zT.iinc 3 dX1_freePlace_43 rfl (by decide) (zpre1 rfl (zcI _)) ?_
            show zT G _ _ _ [zR x, zI d, zI j, zI (j + (-1))] _ _ _ _ _ _ _
            refine zT.goto (tgt := 12) dX1_freePlace_46 (by decide) ?_
            exact ih12 _ _ (by omega) (by omega) (by
                exact fun i a b => by
                  by_cases e : i = j
                  · rw [e]; omega
                  · exact hm i (by omega) b) (by
                first
                  | exact Or.inr ⟨by omega, by omega, by omega, fun i a b => by omega⟩
                  | (rcases hl with ⟨e, q⟩ | ⟨a, b, c, q⟩
                     · refine Or.inl ⟨e, fun i i0 i1 => ?_⟩
                       by_cases z : i = j
                       · rw [z]; omega
                       · exact q i (by omega) i1
                     · refine Or.inr ⟨by omega, b, c, fun i i0 i1 => ?_⟩
                       by_cases z : i = j
                       · rw [z]; omega
                       · exact q i (by omega) i1)) (by omega)
          · refine zT.iload_n 3 dX1_freePlace_39 rfl rfl ?_
            refine zT.iret dX1_freePlace_40 rfl ?_
            exact ⟨by rw [cFp_m (p := j) (by omega) j1 (by omega) (by omega) (fun q q0 q1 q2 => hu q j q0 q1 (by omega) j1 q2 (by omega))], rfl, rfl⟩
        · refine zT.goto (tgt := 43) dX1_freePlace_26 (by decide) ?_
          refine zT.iinc 3 dX1_freePlace_43 rfl (by decide) (zpre1 rfl (zcI _)) ?_
          show zT G _ _ _ [zR x, zI d, zI l, zI (j + (-1))] _ _ _ _ _ _ _
          refine zT.goto (tgt := 12) dX1_freePlace_46 (by decide) ?_
          exact ih12 _ _ (by omega) (by omega) (by
              exact fun i a b => by
                by_cases e : i = j
                · rw [e]; omega
                · exact hm i (by omega) b) (by
              first
                | exact Or.inr ⟨by omega, by omega, by omega, fun i a b => by omega⟩
                | (rcases hl with ⟨e, q⟩ | ⟨a, b, c, q⟩
                   · refine Or.inl ⟨e, fun i i0 i1 => ?_⟩
                     by_cases z : i = j
                     · rw [z]; omega
                     · exact q i (by omega) i1
                   · refine Or.inr ⟨by omega, b, c, fun i i0 i1 => ?_⟩
                     by_cases z : i = j
                     · rw [z]; omega
                     · exact q i (by omega) i1)) (by omega)
  exact L12 _ _ _ (by omega) (by omega) (by exact fun i a b => by omega) (by exact Or.inl ⟨rfl, fun i a b => by omega⟩) (Nat.lt_succ_self _)

