/-! worthOf, both sides (written by gen/m_serv.py) -/
theorem C_X1_worthOf_2 {G : zG} {S : zS} {m : zMm} {x p : Int} {K : Int → Int} (hx : zPan S x) (h7 : m x 7 = p) (hkr : zKR S m p K) (hk : zKV K) {g t : Int} (g0 : 0 ≤ g) (g1 : g < 8) (ht : 0 ≤ t ∧ t ≤ 100000) : zC G mX1_worthOf_2 1 0 0 [zR x, zI g, zI t] S m (zDet (some (zI (fWo K g t))) S m) zNX := by
  have hkf := hkr.2.1
  have hk0 := hk.1
  have hkg := hkr.2.2.2.1 g g0 g1
  have hkv := hk.2.2.1 g g0 g1
  refine zC.of [zR x, zI g, zI t, zU] (by decide) rfl (zEn1 (zcR _) (zEn1 (zcI _) (zEn1 (zcI _) (zEn0 (by simp))))) rfl ?_
  refine zT.iload_n 2 dX1_worthOf_2_0 rfl rfl ?_
  refine zT.aload_n 0 dX1_worthOf_2_1 rfl rfl ?_
  refine zT.getR dX1_worthOf_2_2 fX1_66 rfl (zPan.k hx) (j := 7) (by decide) rfl ?_
  rw [h7]
  show zT G _ _ _ _ [zR p, zI t] _ _ _ _ _ _
  refine zT.getF dX1_worthOf_2_5 fX1_252 rfl (zKit.k hkr.1) (j := 3) (by decide) rfl (zKit.f203 hkr.1) ?_
  refine zT.iload_n 1 dX1_worthOf_2_8 rfl rfl ?_
  refine zT.iald dX1_worthOf_2_9 (zKit.a203 hkr.1) (by first | assumption | exact zq_i _ | exact zand_i _ _ | exact zor_i _ _ | exact zN _ | omega) (by rw [(zKit.n203 hkr.1)]; first | assumption | exact zq_i _ | exact zand_i _ _ | exact zor_i _ _ | exact zN _ | omega) (fun z9 => ?_)
  refine zT.isub dX1_worthOf_2_10 ?_
  refine zT.istore_n 3 dX1_worthOf_2_11 rfl (by decide) (zpre1 rfl (zcI _)) ?_
  show zT G _ _ _ [zR x, zI g, zI t, zI (t - (m (p + 4) g))] _ _ _ _ _ _ _
  refine zT.iload_n 3 dX1_worthOf_2_12 rfl rfl ?_
  refine zT.aload_n 0 dX1_worthOf_2_13 rfl rfl ?_
  refine zT.getR dX1_worthOf_2_14 fX1_66 rfl (zPan.k hx) (j := 7) (by decide) rfl ?_
  rw [h7]
  show zT G _ _ _ _ [zR p, zI (t - (m (p + 4) g))] _ _ _ _ _ _
  refine zT.getI dX1_worthOf_2_17 fX1_422 rfl (zKit.k hkr.1) (j := 13) (by decide) rfl (fun z17 => ?_)
  refine zT.ineg dX1_worthOf_2_20 ?_
  refine zT.ic_ge (tgt := 28) dX1_worthOf_2_21 (by decide) (by first | assumption | exact zq_i _ | exact zand_i _ _ | exact zor_i _ _ | exact zN _ | omega) (by first | assumption | exact zq_i _ | exact zand_i _ _ | exact zor_i _ _ | exact zN _ | omega) (fun c21 => ?_) (fun c21 => ?_)
  · refine zT.iconst dX1_worthOf_2_28 ?_
    refine zT.aload_n 0 dX1_worthOf_2_29 rfl rfl ?_
    refine zT.getR dX1_worthOf_2_30 fX1_66 rfl (zPan.k hx) (j := 7) (by decide) rfl ?_
    rw [h7]
    show zT G _ _ _ _ [zR p, zI 0] _ _ _ _ _ _
    refine zT.getF dX1_worthOf_2_33 fX1_255 rfl (zKit.k hkr.1) (j := 4) (by decide) rfl (zKit.f204 hkr.1) ?_
    refine zT.iload_n 1 dX1_worthOf_2_36 rfl rfl ?_
    refine zT.iald dX1_worthOf_2_37 (zKit.a204 hkr.1) (by first | assumption | exact zq_i _ | exact zand_i _ _ | exact zor_i _ _ | exact zN _ | omega) (by rw [(zKit.n204 hkr.1)]; first | assumption | exact zq_i _ | exact zand_i _ _ | exact zor_i _ _ | exact zN _ | omega) (fun z37 => ?_)
    refine zT.iconst dX1_worthOf_2_38 ?_
    refine zT.iload_n 3 dX1_worthOf_2_39 rfl rfl ?_
    refine zT.mmax dX1_worthOf_2_40 q1010 (by first | assumption | exact zq_i _ | exact zand_i _ _ | exact zor_i _ _ | exact zN _ | omega) (by first | assumption | exact zq_i _ | exact zand_i _ _ | exact zor_i _ _ | exact zN _ | omega) (by decide) (by simp only [List.map, zcI, zcJ, zcR, List.sum_cons, List.sum_nil]; decide) ?_
    refine zT.isub dX1_worthOf_2_43 ?_
    refine zT.mmax dX1_worthOf_2_44 q1010 (by first | assumption | exact zq_i _ | exact zand_i _ _ | exact zor_i _ _ | exact zN _ | omega) (by first | assumption | exact zq_i _ | exact zand_i _ _ | exact zor_i _ _ | exact zN _ | omega) (by decide) (by decide) ?_
    refine zT.iret dX1_worthOf_2_47 rfl ?_
    refine ⟨?_, rfl, rfl⟩
    unfold fWo
    first
      | (rw [if_pos (by omega)]; done)
      | (rw [if_neg (by omega)]; congr 2; omega)
  · refine zT.iconst dX1_worthOf_2_24 ?_
    refine zT.goto (tgt := 47) dX1_worthOf_2_25 (by decide) ?_
    refine zT.iret dX1_worthOf_2_47 rfl ?_
    refine ⟨?_, rfl, rfl⟩
    unfold fWo
    first
      | (rw [if_pos (by omega)]; done)
      | (rw [if_neg (by omega)]; congr 2; omega)

theorem C_X1_worthOf {G : zG} {S : zS} {m : zMm} {x p : Int} {K : Int → Int} (hx : zPan S x) (h7 : m x 7 = p) (hkr : zKR S m p K) (hk : zKV K) {o t n : Int} (ho : zi o) (ht : 0 ≤ t ∧ t ≤ 100000) (hn : 0 ≤ n ∧ n ≤ 8) : zC G mX1_worthOf 2 0 0 [zR x, zI o, zI t, zI n] S m (zDet (some (zI (fWs K o t n))) S m) zNX := by
  have hkf := hkr.2.1
  have hk0 := hk.1
  refine zC.of [zR x, zI o, zI t, zI n, zU, zU] (by decide) rfl (zEn1 (zcR _) (zEn1 (zcI _) (zEn1 (zcI _) (zEn1 (zcI _) (zEn0 (by simp)))))) rfl ?_
  refine zT.iconst dX1_worthOf_0 ?_
  refine zT.istore 4 dX1_worthOf_1 (by decide) (zpre1 rfl (zcI _)) ?_
  show zT G _ _ _ [zR x, zI o, zI t, zI n, zI 0, zU] _ _ _ _ _ _ _
  refine zT.iconst dX1_worthOf_3 ?_
  refine zT.istore 5 dX1_worthOf_4 (by decide) (zpre1 rfl (zcI _)) ?_
  show zT G _ _ _ [zR x, zI o, zI t, zI n, zI 0, zI 0] _ _ _ _ _ _ _
  have L6 : ∀ (N : Nat) (g : Int) (v : Int), (0 ≤ g) → (g ≤ n) → (v = fWs K o t g) → ((n - g).toNat) < N → zT G mX1_worthOf 2 6 [zR x, zI o, zI t, zI n, zI v, zI g] [] S m 0 0 (zDet (some (zI (fWs K o t n))) S m) zNX := by
    intro N
    induction N with
    | zero => intro g v g0 g1 hv hN; exact absurd hN (Nat.not_lt_zero _)
    | succ N ih6 =>
      intro g v g0 g1 hv hN
      have hvb := fWs_b (o := o) (t := t) hk g0 (show g ≤ 8 by omega)
      rw [← hv] at hvb
      refine zT.iload 5 dX1_worthOf_6 rfl ?_
      refine zT.iload_n 3 dX1_worthOf_8 rfl rfl ?_
      refine zT.ic_ge (tgt := 39) dX1_worthOf_9 (by decide) (by first | assumption | exact zq_i _ | exact zand_i _ _ | exact zor_i _ _ | exact zN _ | omega) (by first | assumption | exact zq_i _ | exact zand_i _ _ | exact zor_i _ _ | exact zN _ | omega) (fun c9 => ?_) (fun c9 => ?_)
      · refine zT.iload 4 dX1_worthOf_39 rfl ?_
        refine zT.iret dX1_worthOf_41 rfl ?_
        rw [hv, show g = n by omega]; exact ⟨rfl, rfl, rfl⟩
      · refine zT.iload_n 1 dX1_worthOf_12 rfl rfl ?_
        refine zT.iload 5 dX1_worthOf_13 rfl ?_
        refine zT.callS (M' := mX1_has) [zI o, zI g] [] dX1_worthOf_15 kX1_424 rfl rfl (C_X1_has (by first | assumption | exact zq_i _ | exact zand_i _ _ | exact zor_i _ _ | exact zN _ | omega) (by first | assumption | exact zq_i _ | exact zand_i _ _ | exact zor_i _ _ | exact zN _ | omega) (by first | assumption | exact zq_i _ | exact zand_i _ _ | exact zor_i _ _ | exact zN _ | omega)) (by decide) (k' := 0) (n' := 0) (by omega) (by omega) (by decide) (zdk (v := some (zI (zq (zbit o g)))) ?_) (fun _ _ _ _ h => h.elim)
        show zT G _ _ _ _ [zI (zq (zbit o g))] _ _ _ _ _ _
        refine zT.if_eqB (tgt := 33) dX1_worthOf_18 (by decide) (fun c18 => ?_) (fun c18 => ?_)
        · refine zT.iinc 5 dX1_worthOf_33 rfl (by decide) (zpre1 rfl (zcI _)) ?_
          show zT G _ _ _ [zR x, zI o, zI t, zI n, zI v, zI (g + 1)] _ _ _ _ _ _ _
          refine zT.goto (tgt := 6) dX1_worthOf_36 (by decide) ?_
          exact ih6 _ _ (by first | assumption | exact zq_i _ | exact zand_i _ _ | exact zor_i _ _ | exact zN _ | omega) (by first | assumption | exact zq_i _ | exact zand_i _ _ | exact zor_i _ _ | exact zN _ | omega) (by
              unfold fWs at hv ⊢
              rw [zs_s g0, ← hv]
              first
                | (rw [zite_t (by assumption)]; done)
                | (rw [zite_f (by assumption)]; omega)) (by omega)
        · have hwb := fWo_b (t := t) hk g0 (show g < 8 by omega)
          refine zT.iload 4 dX1_worthOf_21 rfl ?_
          refine zT.aload_n 0 dX1_worthOf_23 rfl rfl ?_
          refine zT.iload 5 dX1_worthOf_24 rfl ?_
          refine zT.iload_n 2 dX1_worthOf_26 rfl rfl ?_
          refine zT.callV (M' := mX1_worthOf_2) (b := x) [zI g, zI t] [zI v] dX1_worthOf_27 kX1_427 rfl rfl (ci := 0) (r := (RX1, TX1, 42)) rfl (zPan.k hx) (C_X1_worthOf_2 hx h7 hkr hk (by omega) (by omega) ht) (by decide) (k' := 0) (n' := 0) (by omega) (by omega) (by simp only [List.map, zcI, zcJ, zcR, List.sum_cons, List.sum_nil]; decide) (zdk (v := some (zI (fWo K g t))) ?_) (fun _ _ _ _ h => h.elim)
          show zT G _ _ _ _ [zI (fWo K g t), zI v] _ _ _ _ _ _
          refine zT.iadd dX1_worthOf_30 ?_
          refine zT.istore 4 dX1_worthOf_31 (by decide) (zpre1 rfl (zcI _)) ?_
          show zT G _ _ _ [zR x, zI o, zI t, zI n, zI (v + (fWo K g t)), zI g] _ _ _ _ _ _ _
          refine zT.iinc 5 dX1_worthOf_33 rfl (by decide) (zpre1 rfl (zcI _)) ?_
          show zT G _ _ _ [zR x, zI o, zI t, zI n, zI (v + (fWo K g t)), zI (g + 1)] _ _ _ _ _ _ _
          refine zT.goto (tgt := 6) dX1_worthOf_36 (by decide) ?_
          exact ih6 _ _ (by first | assumption | exact zq_i _ | exact zand_i _ _ | exact zor_i _ _ | exact zN _ | omega) (by first | assumption | exact zq_i _ | exact zand_i _ _ | exact zor_i _ _ | exact zN _ | omega) (by
              unfold fWs at hv ⊢
              rw [zs_s g0, ← hv]
              first
                | (rw [zite_t (by assumption)]; done)
                | (rw [zite_f (by assumption)]; omega)) (by omega)
  exact L6 _ _ _ (by first | assumption | exact zq_i _ | exact zand_i _ _ | exact zor_i _ _ | exact zN _ | omega) (by first | assumption | exact zq_i _ | exact zand_i _ _ | exact zor_i _ _ | exact zN _ | omega) (by rfl) (Nat.lt_succ_self _)

theorem C_X13_worthOf {G : zG} {S : zS} {m : zMm} {b : Int} {K : Int → Int} (hb : zMod S b) (hk9 : zMK m b K) (hk : zKV K) {g t : Int} (g0 : 0 ≤ g) (g1 : g < 8) (ht : 0 ≤ t ∧ t ≤ 100000) : zC G mX13_worthOf 1 0 0 [zR b, zI g, zI t] S m (zDet (some (zI (fWo K g t))) S m) zNX := by
  have hk0 := hk.1
  have k02 := hk9 2 (by omega) (by omega)
  have k06 := hk9 6 (by omega) (by omega)
  have hkv := hk.2.2.1 g g0 g1
  have c0 : m (b + 2) (32 + 2 * g) = K (32 + 2 * g + 0) := by have q := hk9 (32 + 2 * g + 0) (by omega) (by omega); rw [← q]; congr 1; omega
  have c1 := hk9 (32 + 2 * g + 1) (by omega) (by omega)
  refine zC.of [zR b, zI g, zI t, zU, zU] (by decide) rfl (zEn1 (zcR _) (zEn1 (zcI _) (zEn1 (zcI _) (zEn0 (by simp))))) rfl ?_
  refine zT.aload_n 0 dX13_worthOf_0 rfl rfl ?_
  refine zT.getF dX13_worthOf_1 fX13_13 rfl (zMod.k hb) (j := 14) (by decide) rfl (zMod.f1014 hb) ?_
  refine zT.bipush dX13_worthOf_4 ?_
  refine zT.iconst dX13_worthOf_6 ?_
  refine zT.iload_n 1 dX13_worthOf_7 rfl rfl ?_
  refine zT.imul dX13_worthOf_8 ?_
  refine zT.iadd dX13_worthOf_9 ?_
  refine zT.iald dX13_worthOf_10 (zMod.a1014 hb) (by first | assumption | exact zq_i _ | exact zand_i _ _ | exact zor_i _ _ | exact zN _ | omega) (by rw [(zMod.n1014 hb)]; first | assumption | exact zq_i _ | exact zand_i _ _ | exact zor_i _ _ | exact zN _ | omega) (fun z10 => ?_)
  refine zT.istore_n 3 dX13_worthOf_11 rfl (by decide) (zpre1 rfl (zcI _)) ?_
  show zT G _ _ _ [zR b, zI g, zI t, zI (m (b + 2) (32 + (2 * g))), zU] _ _ _ _ _ _ _
  refine zT.aload_n 0 dX13_worthOf_12 rfl rfl ?_
  refine zT.getF dX13_worthOf_13 fX13_13 rfl (zMod.k hb) (j := 14) (by decide) rfl (zMod.f1014 hb) ?_
  refine zT.bipush dX13_worthOf_16 ?_
  refine zT.iconst dX13_worthOf_18 ?_
  refine zT.iload_n 1 dX13_worthOf_19 rfl rfl ?_
  refine zT.imul dX13_worthOf_20 ?_
  refine zT.iadd dX13_worthOf_21 ?_
  refine zT.iconst dX13_worthOf_22 ?_
  refine zT.iadd dX13_worthOf_23 ?_
  refine zT.iald dX13_worthOf_24 (zMod.a1014 hb) (by first | assumption | exact zq_i _ | exact zand_i _ _ | exact zor_i _ _ | exact zN _ | omega) (by rw [(zMod.n1014 hb)]; first | assumption | exact zq_i _ | exact zand_i _ _ | exact zor_i _ _ | exact zN _ | omega) (fun z24 => ?_)
  refine zT.iload_n 2 dX13_worthOf_25 rfl rfl ?_
  refine zT.iload_n 3 dX13_worthOf_26 rfl rfl ?_
  refine zT.ic_le (tgt := 36) dX13_worthOf_27 (by decide) (by first | assumption | exact zq_i _ | exact zand_i _ _ | exact zor_i _ _ | exact zN _ | omega) (by first | assumption | exact zq_i _ | exact zand_i _ _ | exact zor_i _ _ | exact zN _ | omega) (fun c27 => ?_) (fun c27 => ?_)
  · refine zT.iconst dX13_worthOf_36 ?_
    refine zT.isub dX13_worthOf_37 ?_
    refine zT.istore 4 dX13_worthOf_38 (by decide) (zpre1 rfl (zcI _)) ?_
    show zT G _ _ _ [zR b, zI g, zI t, zI (m (b + 2) (32 + (2 * g))), zI ((m (b + 2) ((32 + (2 * g)) + 1)) - 0)] _ _ _ _ _ _ _
    refine zT.iload_n 3 dX13_worthOf_40 rfl rfl ?_
    refine zT.iload_n 2 dX13_worthOf_41 rfl rfl ?_
    refine zT.isub dX13_worthOf_42 ?_
    refine zT.aload_n 0 dX13_worthOf_43 rfl rfl ?_
    refine zT.getF dX13_worthOf_44 fX13_13 rfl (zMod.k hb) (j := 14) (by decide) rfl (zMod.f1014 hb) ?_
    refine zT.iconst dX13_worthOf_47 ?_
    refine zT.iald dX13_worthOf_48 (zMod.a1014 hb) (by first | assumption | exact zq_i _ | exact zand_i _ _ | exact zor_i _ _ | exact zN _ | omega) (by rw [(zMod.n1014 hb)]; first | assumption | exact zq_i _ | exact zand_i _ _ | exact zor_i _ _ | exact zN _ | omega) (fun z48 => ?_)
    refine zT.ic_gt (tgt := 57) dX13_worthOf_49 (by decide) (by first | assumption | exact zq_i _ | exact zand_i _ _ | exact zor_i _ _ | exact zN _ | omega) (by first | assumption | exact zq_i _ | exact zand_i _ _ | exact zor_i _ _ | exact zN _ | omega) (fun c49 => ?_) (fun c49 => ?_)
    · refine zT.iconst dX13_worthOf_57 ?_
      refine zT.goto (tgt := 63) dX13_worthOf_58 (by decide) ?_
      refine zT.iret dX13_worthOf_63 rfl ?_
      refine ⟨?_, rfl, rfl⟩
      unfold fWo
      first
        | (rw [if_pos (by omega)]; done)
        | (rw [if_neg (by omega)]; congr 2; omega)
        | (split <;> (congr 2; omega))
    · refine zT.iload 4 dX13_worthOf_52 rfl ?_
      refine zT.if_ge (tgt := 61) dX13_worthOf_54 (by decide) (by first | assumption | exact zq_i _ | exact zand_i _ _ | exact zor_i _ _ | exact zN _ | omega) (fun c54 => ?_) (fun c54 => ?_)
      · refine zT.iload 4 dX13_worthOf_61 rfl ?_
        refine zT.iret dX13_worthOf_63 rfl ?_
        refine ⟨?_, rfl, rfl⟩
        unfold fWo
        first
          | (rw [if_pos (by omega)]; done)
          | (rw [if_neg (by omega)]; congr 2; omega)
          | (split <;> (congr 2; omega))
      · refine zT.iconst dX13_worthOf_57 ?_
        refine zT.goto (tgt := 63) dX13_worthOf_58 (by decide) ?_
        refine zT.iret dX13_worthOf_63 rfl ?_
        refine ⟨?_, rfl, rfl⟩
        unfold fWo
        first
          | (rw [if_pos (by omega)]; done)
          | (rw [if_neg (by omega)]; congr 2; omega)
          | (split <;> (congr 2; omega))
  · refine zT.iload_n 2 dX13_worthOf_30 rfl rfl ?_
    refine zT.iload_n 3 dX13_worthOf_31 rfl rfl ?_
    refine zT.isub dX13_worthOf_32 ?_
    refine zT.goto (tgt := 37) dX13_worthOf_33 (by decide) ?_
    refine zT.isub dX13_worthOf_37 ?_
    refine zT.istore 4 dX13_worthOf_38 (by decide) (zpre1 rfl (zcI _)) ?_
    show zT G _ _ _ [zR b, zI g, zI t, zI (m (b + 2) (32 + (2 * g))), zI ((m (b + 2) ((32 + (2 * g)) + 1)) - (t - (m (b + 2) (32 + (2 * g)))))] _ _ _ _ _ _ _
    refine zT.iload_n 3 dX13_worthOf_40 rfl rfl ?_
    refine zT.iload_n 2 dX13_worthOf_41 rfl rfl ?_
    refine zT.isub dX13_worthOf_42 ?_
    refine zT.aload_n 0 dX13_worthOf_43 rfl rfl ?_
    refine zT.getF dX13_worthOf_44 fX13_13 rfl (zMod.k hb) (j := 14) (by decide) rfl (zMod.f1014 hb) ?_
    refine zT.iconst dX13_worthOf_47 ?_
    refine zT.iald dX13_worthOf_48 (zMod.a1014 hb) (by first | assumption | exact zq_i _ | exact zand_i _ _ | exact zor_i _ _ | exact zN _ | omega) (by rw [(zMod.n1014 hb)]; first | assumption | exact zq_i _ | exact zand_i _ _ | exact zor_i _ _ | exact zN _ | omega) (fun z48 => ?_)
    refine zT.ic_gt (tgt := 57) dX13_worthOf_49 (by decide) (by first | assumption | exact zq_i _ | exact zand_i _ _ | exact zor_i _ _ | exact zN _ | omega) (by first | assumption | exact zq_i _ | exact zand_i _ _ | exact zor_i _ _ | exact zN _ | omega) (fun c49 => ?_) (fun c49 => ?_)
    · refine zT.iconst dX13_worthOf_57 ?_
      refine zT.goto (tgt := 63) dX13_worthOf_58 (by decide) ?_
      refine zT.iret dX13_worthOf_63 rfl ?_
      refine ⟨?_, rfl, rfl⟩
      unfold fWo
      first
        | (rw [if_pos (by omega)]; done)
        | (rw [if_neg (by omega)]; congr 2; omega)
        | (split <;> (congr 2; omega))
    · refine zT.iload 4 dX13_worthOf_52 rfl ?_
      refine zT.if_ge (tgt := 61) dX13_worthOf_54 (by decide) (by first | assumption | exact zq_i _ | exact zand_i _ _ | exact zor_i _ _ | exact zN _ | omega) (fun c54 => ?_) (fun c54 => ?_)
      · refine zT.iload 4 dX13_worthOf_61 rfl ?_
        refine zT.iret dX13_worthOf_63 rfl ?_
        refine ⟨?_, rfl, rfl⟩
        unfold fWo
        first
          | (rw [if_pos (by omega)]; done)
          | (rw [if_neg (by omega)]; congr 2; omega)
          | (split <;> (congr 2; omega))
      · refine zT.iconst dX13_worthOf_57 ?_
        refine zT.goto (tgt := 63) dX13_worthOf_58 (by decide) ?_
        refine zT.iret dX13_worthOf_63 rfl ?_
        refine ⟨?_, rfl, rfl⟩
        unfold fWo
        first
          | (rw [if_pos (by omega)]; done)
          | (rw [if_neg (by omega)]; congr 2; omega)
          | (split <;> (congr 2; omega))

theorem C_X13_worthOfSet {G : zG} {S : zS} {m : zMm} {b : Int} {K : Int → Int} (hb : zMod S b) (hk9 : zMK m b K) (hk : zKV K) {o t : Int} (ho : zi o) (ht : 0 ≤ t ∧ t ≤ 100000) : zC G mX13_worthOfSet 2 0 0 [zR b, zI o, zI t] S m (zDet (some (zI (fWs K o t (K 6)))) S m) zNX := by
  have hk0 := hk.1
  have k02 := hk9 2 (by omega) (by omega)
  have k06 := hk9 6 (by omega) (by omega)
  refine zC.of [zR b, zI o, zI t, zU, zU] (by decide) rfl (zEn1 (zcR _) (zEn1 (zcI _) (zEn1 (zcI _) (zEn0 (by simp))))) rfl ?_
  refine zT.iconst dX13_worthOfSet_0 ?_
  refine zT.istore_n 3 dX13_worthOfSet_1 rfl (by decide) (zpre1 rfl (zcI _)) ?_
  show zT G _ _ _ [zR b, zI o, zI t, zI 0, zU] _ _ _ _ _ _ _
  refine zT.iconst dX13_worthOfSet_2 ?_
  refine zT.istore 4 dX13_worthOfSet_3 (by decide) (zpre1 rfl (zcI _)) ?_
  show zT G _ _ _ [zR b, zI o, zI t, zI 0, zI 0] _ _ _ _ _ _ _
  have L5 : ∀ (N : Nat) (g : Int) (v : Int), (0 ≤ g) → (g ≤ K 6) → (v = fWs K o t g) → ((K 6 - g).toNat) < N → zT G mX13_worthOfSet 2 5 [zR b, zI o, zI t, zI v, zI g] [] S m 0 0 (zDet (some (zI (fWs K o t (K 6)))) S m) zNX := by
    intro N
    induction N with
    | zero => intro g v g0 g1 hv hN; exact absurd hN (Nat.not_lt_zero _)
    | succ N ih5 =>
      intro g v g0 g1 hv hN
      have hvb := fWs_b (o := o) (t := t) hk g0 (show g ≤ 8 by omega)
      rw [← hv] at hvb
      refine zT.iload 4 dX13_worthOfSet_5 rfl ?_
      refine zT.aload_n 0 dX13_worthOfSet_7 rfl rfl ?_
      refine zT.getF dX13_worthOfSet_8 fX13_13 rfl (zMod.k hb) (j := 14) (by decide) rfl (zMod.f1014 hb) ?_
      refine zT.bipush dX13_worthOfSet_11 ?_
      refine zT.iald dX13_worthOfSet_13 (zMod.a1014 hb) (by first | assumption | exact zq_i _ | exact zand_i _ _ | exact zor_i _ _ | exact zN _ | omega) (by rw [(zMod.n1014 hb)]; first | assumption | exact zq_i _ | exact zand_i _ _ | exact zor_i _ _ | exact zN _ | omega) (fun z13 => ?_)
      refine zT.ic_ge (tgt := 42) dX13_worthOfSet_14 (by decide) (by first | assumption | exact zq_i _ | exact zand_i _ _ | exact zor_i _ _ | exact zN _ | omega) (by first | assumption | exact zq_i _ | exact zand_i _ _ | exact zor_i _ _ | exact zN _ | omega) (fun c14 => ?_) (fun c14 => ?_)
      · refine zT.iload_n 3 dX13_worthOfSet_42 rfl rfl ?_
        refine zT.iret dX13_worthOfSet_43 rfl ?_
        rw [hv, show g = K 6 by omega]; exact ⟨rfl, rfl, rfl⟩
      · refine zT.iload_n 1 dX13_worthOfSet_17 rfl rfl ?_
        refine zT.iload 4 dX13_worthOfSet_18 rfl ?_
        refine zT.callS (M' := mX13_has) [zI o, zI g] [] dX13_worthOfSet_20 kX13_220 rfl rfl (C_X13_has (by first | assumption | exact zq_i _ | exact zand_i _ _ | exact zor_i _ _ | exact zN _ | omega) (by first | assumption | exact zq_i _ | exact zand_i _ _ | exact zor_i _ _ | exact zN _ | omega) (by first | assumption | exact zq_i _ | exact zand_i _ _ | exact zor_i _ _ | exact zN _ | omega)) (by decide) (k' := 0) (n' := 0) (by omega) (by omega) (by decide) (zdk (v := some (zI (zq (zbit o g)))) ?_) (fun _ _ _ _ h => h.elim)
        show zT G _ _ _ _ [zI (zq (zbit o g))] _ _ _ _ _ _
        refine zT.if_eqB (tgt := 36) dX13_worthOfSet_23 (by decide) (fun c23 => ?_) (fun c23 => ?_)
        · refine zT.iinc 4 dX13_worthOfSet_36 rfl (by decide) (zpre1 rfl (zcI _)) ?_
          show zT G _ _ _ [zR b, zI o, zI t, zI v, zI (g + 1)] _ _ _ _ _ _ _
          refine zT.goto (tgt := 5) dX13_worthOfSet_39 (by decide) ?_
          exact ih5 _ _ (by first | assumption | exact zq_i _ | exact zand_i _ _ | exact zor_i _ _ | exact zN _ | omega) (by first | assumption | exact zq_i _ | exact zand_i _ _ | exact zor_i _ _ | exact zN _ | omega) (by
              unfold fWs at hv ⊢
              rw [zs_s g0, ← hv]
              first
                | (rw [zite_t (by assumption)]; done)
                | (rw [zite_f (by assumption)]; omega)) (by omega)
        · have hwb := fWo_b (t := t) hk g0 (show g < 8 by omega)
          refine zT.iload_n 3 dX13_worthOfSet_26 rfl rfl ?_
          refine zT.aload_n 0 dX13_worthOfSet_27 rfl rfl ?_
          refine zT.iload 4 dX13_worthOfSet_28 rfl ?_
          refine zT.iload_n 2 dX13_worthOfSet_30 rfl rfl ?_
          refine zT.callV (M' := mX13_worthOf) (b := b) [zI g, zI t] [zI v] dX13_worthOfSet_31 kX13_410 rfl rfl (ci := 10) (r := (RX13, TX13, 62)) rfl (zMod.k hb) (C_X13_worthOf hb hk9 hk (by omega) (by omega) ht) (by decide) (k' := 0) (n' := 0) (by omega) (by omega) (by simp only [List.map, zcI, zcJ, zcR, List.sum_cons, List.sum_nil]; decide) (zdk (v := some (zI (fWo K g t))) ?_) (fun _ _ _ _ h => h.elim)
          show zT G _ _ _ _ [zI (fWo K g t), zI v] _ _ _ _ _ _
          refine zT.iadd dX13_worthOfSet_34 ?_
          refine zT.istore_n 3 dX13_worthOfSet_35 rfl (by decide) (zpre1 rfl (zcI _)) ?_
          show zT G _ _ _ [zR b, zI o, zI t, zI (v + (fWo K g t)), zI g] _ _ _ _ _ _ _
          refine zT.iinc 4 dX13_worthOfSet_36 rfl (by decide) (zpre1 rfl (zcI _)) ?_
          show zT G _ _ _ [zR b, zI o, zI t, zI (v + (fWo K g t)), zI (g + 1)] _ _ _ _ _ _ _
          refine zT.goto (tgt := 5) dX13_worthOfSet_39 (by decide) ?_
          exact ih5 _ _ (by first | assumption | exact zq_i _ | exact zand_i _ _ | exact zor_i _ _ | exact zN _ | omega) (by first | assumption | exact zq_i _ | exact zand_i _ _ | exact zor_i _ _ | exact zN _ | omega) (by
              unfold fWs at hv ⊢
              rw [zs_s g0, ← hv]
              first
                | (rw [zite_t (by assumption)]; done)
                | (rw [zite_f (by assumption)]; omega)) (by omega)
  exact L5 _ _ _ (by first | assumption | exact zq_i _ | exact zand_i _ _ | exact zor_i _ _ | exact zN _ | omega) (by first | assumption | exact zq_i _ | exact zand_i _ _ | exact zor_i _ _ | exact zN _ | omega) (by rfl) (Nat.lt_succ_self _)

