/-! chosen, minute (written by gen/m_cook2.py) -/
theorem kU399_0 : zLU RX1 399 2 RX9 ⟨"PanSlices$Cook", "likes", "(II)I"⟩ "PanSlices$Cook" mX9_likes := ⟨q1081, q1083, Or.inl q1082, Or.inl q1090, q1091, q117, q1092, (by decide +kernel), rfl, by decide⟩
theorem kU399_1 : zLU RX1 399 2 RX10 ⟨"PanSlices$Cook", "likes", "(II)I"⟩ "PanSlices$Cook" mX10_likes := ⟨q1081, q1083, Or.inl q1082, Or.inl q1087, q1088, q118, q1089, (by decide +kernel), rfl, by decide⟩
theorem kU399_2 : zLU RX1 399 2 RX11 ⟨"PanSlices$Cook", "likes", "(II)I"⟩ "PanSlices$Cook" mX11_likes := ⟨q1081, q1083, Or.inl q1082, Or.inl q1084, q1085, q119, q1086, (by decide +kernel), rfl, by decide⟩
section
variable {G : zG} {d pc : Nat} {V st : List Value} {S : zS} {mm : zMm} {k n : Nat} {Q : zQt} {X : zXt}
/-- how well a cook likes a slice: a call by the cook's class -/
theorem zT.likes {q r t u : Int} {rest : List Value} (hd : decode mX1_chosen.2.1 pc = .ok (.invokevirtual 399, 3)) (hr : 0 ≤ r ∧ r ≤ 2) (hq : zk S q = (7 + r).toNat) (ht : 0 ≤ t ∧ t ≤ 20) (hu : 0 ≤ u ∧ u ≤ 20) (hdd : 1 ≤ d) (hcat : (rest.map fun v => v.category).sum ≤ 8)
    (kk : zT G mX1_chosen d (pc + 3) V (zI (cLk r t u) :: rest) S mm k n Q X) : zT G mX1_chosen d pc V (zI u :: zI t :: zR q :: rest) S mm k n Q X := by
  rcases (by omega : r = 0 ∨ r = 1 ∨ r = 2) with rfl | rfl | rfl
  · exact zT.callU (M' := mX9_likes) (b := q) [zI t, zI u] rest hd kU399_0 rfl rfl (ci := 6) (r := (RX9, TZ0, 0)) rfl hq (C_X9_likes ht hu) hdd (k' := k) (n' := n) (by omega) (by omega) hcat (zdk (v := some (zI (cLk 0 t u))) kk) (fun _ _ _ _ h => h.elim)
  · exact zT.callU (M' := mX10_likes) (b := q) [zI t, zI u] rest hd kU399_1 rfl rfl (ci := 7) (r := (RX10, TZ0, 0)) rfl hq (C_X10_likes ht hu) hdd (k' := k) (n' := n) (by omega) (by omega) hcat (zdk (v := some (zI (cLk 1 t u))) kk) (fun _ _ _ _ h => h.elim)
  · exact zT.callU (M' := mX11_likes) (b := q) [zI t, zI u] rest hd kU399_2 rfl rfl (ci := 8) (r := (RX11, TZ0, 0)) rfl hq (C_X11_likes ht hu) hdd (k' := k) (n' := n) (by omega) (by omega) hcat (zdk (v := some (zI (cLk 2 t u))) kk) (fun _ _ _ _ h => h.elim)
end
theorem cLk_b {r t u : Int} (ht : 0 ≤ t ∧ t ≤ 20) (hu : 0 ≤ u ∧ u ≤ 20) : 0 ≤ cLk r t u ∧ cLk r t u ≤ 40 := by
  unfold cLk
  repeat' split
  all_goals omega
theorem C_X1_chosen {G : zG} {S : zS} {m : zMm} {x p : Int} {K L O W Y : Int → Int} (hx : zPan S x) (h7 : m x 7 = p) (hkr : zKR S m p K) (hk : zKV K) (hL : ∀ j, 0 ≤ j → j < 16 → m (x + 39) j = L j) (hLb : ∀ j, 0 ≤ j → j < 16 → 0 ≤ L j ∧ L j ≤ 20) (hO : ∀ j, 0 ≤ j → j < 16 → m (x + 40) j = O j) (hOb : ∀ j, 0 ≤ j → j < 16 → 0 ≤ O j ∧ O j ≤ 100000) (hY : ∀ j, 0 ≤ j → j < K 0 → m (x + 41) j = Y j) (hYb : ∀ j, 0 ≤ j → j < K 0 → -1 ≤ Y j ∧ Y j < 16) (hW : ∀ j, 0 ≤ j → j < K 0 → m (x + 42) j = W j) {q r t : Int} (hr : 0 ≤ r ∧ r ≤ 2) (hq : zk S q = (7 + r).toNat) (ht : 0 ≤ t ∧ t ≤ 100000) : zC G mX1_chosen 2 0 0 [zR x, zR q, zI t] S m (zDet (some (zI (cCh K L O Y r t (K 5)))) S m) zNX := by
  have hkf := hkr.2.1
  have hk0 := hk.1
  refine zC.of [zR x, zR q, zI t, zU, zU] (by decide) rfl (zEn1 (zcR _) (zEn1 (zcR _) (zEn1 (zcI _) (zEn0 (by simp))))) rfl ?_
  refine zT.iconst dX1_chosen_0 ?_
  refine zT.istore_n 3 dX1_chosen_1 rfl (by decide) (zpre1 rfl (zcI _)) ?_
  show zT G _ _ _ [zR x, zR q, zI t, zI (-1), zU] _ _ _ _ _ _ _
  refine zT.iconst dX1_chosen_2 ?_
  refine zT.istore 4 dX1_chosen_3 (by decide) (zpre1 rfl (zcI _)) ?_
  show zT G _ _ _ [zR x, zR q, zI t, zI (-1), zI 0] _ _ _ _ _ _ _
  have L5 : ∀ (N : Nat) (s : Int) (v : Int), (0 ≤ s) → (s ≤ K 5) → (v = cCh K L O Y r t s) → ((K 5 - s).toNat) < N → zT G mX1_chosen 2 5 [zR x, zR q, zI t, zI v, zI s] [] S m 0 0 (zDet (some (zI (cCh K L O Y r t (K 5)))) S m) zNX := by
    intro N
    induction N with
    | zero => intro s v s0 s1 hv hN; exact absurd hN (Nat.not_lt_zero _)
    | succ N ih5 =>
      intro s v s0 s1 hv hN
      have hvb := cCh_i (K := K) (L := L) (O := O) (N := Y) (r := r) (m := t) s0
      rw [← hv] at hvb
      refine zT.iload 4 dX1_chosen_5 rfl ?_
      refine zT.aload_n 0 dX1_chosen_7 rfl rfl ?_
      refine zT.getR dX1_chosen_8 fX1_66 rfl (zPan.k hx) (j := 7) (by decide) rfl ?_
      rw [h7]
      show zT G _ _ _ _ [zR p, zI s] _ _ _ _ _ _
      refine zT.getI dX1_chosen_11 fX1_228 rfl (zKit.k hkr.1) (j := 8) (by decide) rfl (fun z11 => ?_)
      refine zT.ic_ge (tgt := 90) dX1_chosen_14 (by decide) (by first | assumption | exact zq_i _ | exact zand_i _ _ | exact zor_i _ _ | exact zN _ | omega) (by first | assumption | exact zq_i _ | exact zand_i _ _ | exact zor_i _ _ | exact zN _ | omega) (fun c14 => ?_) (fun c14 => ?_)
      · refine zT.iload_n 3 dX1_chosen_90 rfl rfl ?_
        refine zT.iret dX1_chosen_91 rfl ?_
        rw [hv, show s = K 5 by omega]; exact ⟨rfl, rfl, rfl⟩
      · refine zT.aload_n 0 dX1_chosen_17 rfl rfl ?_
        refine zT.iload 4 dX1_chosen_18 rfl ?_
        refine zT.iload_n 2 dX1_chosen_20 rfl rfl ?_
        refine zT.callV (M' := mX1_canGo) (b := x) [zI s, zI t] [] dX1_chosen_21 kX1_396 rfl rfl (ci := 0) (r := (RX1, TX1, 42)) rfl (zPan.k hx) (C_X1_canGo hx h7 hkr hk hL hLb hO hOb hY hYb hW (by omega) (by omega) ht) (by decide) (k' := 0) (n' := 0) (by omega) (by omega) (by decide) (zdk (v := some (zI (zq (cGo K L O Y t s)))) ?_) (fun _ _ _ _ h => h.elim)
        show zT G _ _ _ _ [zI (zq (cGo K L O Y t s))] _ _ _ _ _ _
        refine zT.if_eqB (tgt := 84) dX1_chosen_24 (by decide) (fun c24 => ?_) (fun c24 => ?_)
        · refine zT.iinc 4 dX1_chosen_84 rfl (by decide) (zpre1 rfl (zcI _)) ?_
          show zT G _ _ _ [zR x, zR q, zI t, zI v, zI (s + 1)] _ _ _ _ _ _ _
          refine zT.goto (tgt := 5) dX1_chosen_87 (by decide) ?_
          exact ih5 _ _ (by first | assumption | exact zq_i _ | exact zand_i _ _ | exact zor_i _ _ | exact zN _ | omega) (by first | assumption | exact zq_i _ | exact zand_i _ _ | exact zor_i _ _ | exact zN _ | omega) (by
              rw [cCh_s s0, ← hv]
              first
                | rw [zite_t ⟨by assumption, by omega⟩]
                | rw [zite_f (fun z => absurd z.1 (by assumption))]
                | rw [zite_f (fun z => by have z2 := z.2; omega)]) (by omega)
        · refine zT.iload_n 3 dX1_chosen_27 rfl rfl ?_
          refine zT.iconst dX1_chosen_28 ?_
          refine zT.ic_eq (tgt := 81) dX1_chosen_29 (by decide) (by first | assumption | exact zq_i _ | exact zand_i _ _ | exact zor_i _ _ | exact zN _ | omega) (by first | assumption | exact zq_i _ | exact zand_i _ _ | exact zor_i _ _ | exact zN _ | omega) (fun c29 => ?_) (fun c29 => ?_)
          · refine zT.iload 4 dX1_chosen_81 rfl ?_
            refine zT.istore_n 3 dX1_chosen_83 rfl (by decide) (zpre1 rfl (zcI _)) ?_
            show zT G _ _ _ [zR x, zR q, zI t, zI s, zI s] _ _ _ _ _ _ _
            refine zT.iinc 4 dX1_chosen_84 rfl (by decide) (zpre1 rfl (zcI _)) ?_
            show zT G _ _ _ [zR x, zR q, zI t, zI s, zI (s + 1)] _ _ _ _ _ _ _
            refine zT.goto (tgt := 5) dX1_chosen_87 (by decide) ?_
            exact ih5 _ _ (by first | assumption | exact zq_i _ | exact zand_i _ _ | exact zor_i _ _ | exact zN _ | omega) (by first | assumption | exact zq_i _ | exact zand_i _ _ | exact zor_i _ _ | exact zN _ | omega) (by
                rw [cCh_s s0, ← hv]
                first
                  | rw [zite_t ⟨by assumption, by omega⟩]
                  | rw [zite_f (fun z => absurd z.1 (by assumption))]
                  | rw [zite_f (fun z => by have z2 := z.2; omega)]) (by omega)
          · have ls0 := hL (2 * s) (by omega) (by omega)
            have ls1 := hL (2 * s + 1) (by omega) (by omega)
            have bs0 := hLb (2 * s) (by omega) (by omega)
            have bs1 := hLb (2 * s + 1) (by omega) (by omega)
            have lv0 := hL (2 * v) (by omega) (by omega)
            have lv1 := hL (2 * v + 1) (by omega) (by omega)
            have bv0 := hLb (2 * v) (by omega) (by omega)
            have bv1 := hLb (2 * v + 1) (by omega) (by omega)
            have k1 := cLk_b (r := r) (t := L (2 * s)) (u := L (2 * s + 1)) (by omega) (by omega)
            have k2 := cLk_b (r := r) (t := L (2 * v)) (u := L (2 * v + 1)) (by omega) (by omega)
            refine zT.aload_n 1 dX1_chosen_32 rfl rfl ?_
            refine zT.aload_n 0 dX1_chosen_33 rfl rfl ?_
            refine zT.getF dX1_chosen_34 fX1_138 rfl (zPan.k hx) (j := 25) (by decide) rfl (zPan.f25 hx) ?_
            refine zT.iconst dX1_chosen_37 ?_
            refine zT.iload 4 dX1_chosen_38 rfl ?_
            refine zT.imul dX1_chosen_40 ?_
            refine zT.iald dX1_chosen_41 (zPan.a25 hx) (by first | assumption | exact zq_i _ | exact zand_i _ _ | exact zor_i _ _ | exact zN _ | omega) (by rw [(zPan.n25 hx)]; first | assumption | exact zq_i _ | exact zand_i _ _ | exact zor_i _ _ | exact zN _ | omega) (fun z41 => ?_)
            rw [ls0]
            show zT G _ _ _ _ [zI (L (2 * s)), zR q] _ _ _ _ _ _
            refine zT.aload_n 0 dX1_chosen_42 rfl rfl ?_
            refine zT.getF dX1_chosen_43 fX1_138 rfl (zPan.k hx) (j := 25) (by decide) rfl (zPan.f25 hx) ?_
            refine zT.iconst dX1_chosen_46 ?_
            refine zT.iload 4 dX1_chosen_47 rfl ?_
            refine zT.imul dX1_chosen_49 ?_
            refine zT.iconst dX1_chosen_50 ?_
            refine zT.iadd dX1_chosen_51 ?_
            refine zT.iald dX1_chosen_52 (zPan.a25 hx) (by first | assumption | exact zq_i _ | exact zand_i _ _ | exact zor_i _ _ | exact zN _ | omega) (by rw [(zPan.n25 hx)]; first | assumption | exact zq_i _ | exact zand_i _ _ | exact zor_i _ _ | exact zN _ | omega) (fun z52 => ?_)
            rw [ls1]
            show zT G _ _ _ _ [zI (L (2 * s + 1)), zI (L (2 * s)), zR q] _ _ _ _ _ _
            refine zT.likes (rest := []) dX1_chosen_53 hr hq (by omega) (by omega) (by decide) (by decide) ?_
            refine zT.aload_n 1 dX1_chosen_56 rfl rfl ?_
            refine zT.aload_n 0 dX1_chosen_57 rfl rfl ?_
            refine zT.getF dX1_chosen_58 fX1_138 rfl (zPan.k hx) (j := 25) (by decide) rfl (zPan.f25 hx) ?_
            refine zT.iconst dX1_chosen_61 ?_
            refine zT.iload_n 3 dX1_chosen_62 rfl rfl ?_
            refine zT.imul dX1_chosen_63 ?_
            refine zT.iald dX1_chosen_64 (zPan.a25 hx) (by first | assumption | exact zq_i _ | exact zand_i _ _ | exact zor_i _ _ | exact zN _ | omega) (by rw [(zPan.n25 hx)]; first | assumption | exact zq_i _ | exact zand_i _ _ | exact zor_i _ _ | exact zN _ | omega) (fun z64 => ?_)
            rw [lv0]
            show zT G _ _ _ _ [zI (L (2 * v)), zR q, zI (cLk r (L (2 * s)) (L (2 * s + 1)))] _ _ _ _ _ _
            refine zT.aload_n 0 dX1_chosen_65 rfl rfl ?_
            refine zT.getF dX1_chosen_66 fX1_138 rfl (zPan.k hx) (j := 25) (by decide) rfl (zPan.f25 hx) ?_
            refine zT.iconst dX1_chosen_69 ?_
            refine zT.iload_n 3 dX1_chosen_70 rfl rfl ?_
            refine zT.imul dX1_chosen_71 ?_
            refine zT.iconst dX1_chosen_72 ?_
            refine zT.iadd dX1_chosen_73 ?_
            refine zT.iald dX1_chosen_74 (zPan.a25 hx) (by first | assumption | exact zq_i _ | exact zand_i _ _ | exact zor_i _ _ | exact zN _ | omega) (by rw [(zPan.n25 hx)]; first | assumption | exact zq_i _ | exact zand_i _ _ | exact zor_i _ _ | exact zN _ | omega) (fun z74 => ?_)
            rw [lv1]
            show zT G _ _ _ _ [zI (L (2 * v + 1)), zI (L (2 * v)), zR q, zI (cLk r (L (2 * s)) (L (2 * s + 1)))] _ _ _ _ _ _
            refine zT.likes (rest := [zI (cLk r (L (2 * s)) (L (2 * s + 1)))]) dX1_chosen_75 hr hq (by omega) (by omega) (by decide) (by simp only [List.map, zcI, zcJ, zcR, List.sum_cons, List.sum_nil]; decide) ?_
            refine zT.ic_le (tgt := 84) dX1_chosen_78 (by decide) (by first | assumption | exact zq_i _ | exact zand_i _ _ | exact zor_i _ _ | exact zN _ | omega) (by first | assumption | exact zq_i _ | exact zand_i _ _ | exact zor_i _ _ | exact zN _ | omega) (fun c78 => ?_) (fun c78 => ?_)
            · refine zT.iinc 4 dX1_chosen_84 rfl (by decide) (zpre1 rfl (zcI _)) ?_
              show zT G _ _ _ [zR x, zR q, zI t, zI v, zI (s + 1)] _ _ _ _ _ _ _
              refine zT.goto (tgt := 5) dX1_chosen_87 (by decide) ?_
              exact ih5 _ _ (by first | assumption | exact zq_i _ | exact zand_i _ _ | exact zor_i _ _ | exact zN _ | omega) (by first | assumption | exact zq_i _ | exact zand_i _ _ | exact zor_i _ _ | exact zN _ | omega) (by
                  rw [cCh_s s0, ← hv]
                  first
                    | rw [zite_t ⟨by assumption, by omega⟩]
                    | rw [zite_f (fun z => absurd z.1 (by assumption))]
                    | rw [zite_f (fun z => by have z2 := z.2; omega)]) (by omega)
            · refine zT.iload 4 dX1_chosen_81 rfl ?_
              refine zT.istore_n 3 dX1_chosen_83 rfl (by decide) (zpre1 rfl (zcI _)) ?_
              show zT G _ _ _ [zR x, zR q, zI t, zI s, zI s] _ _ _ _ _ _ _
              refine zT.iinc 4 dX1_chosen_84 rfl (by decide) (zpre1 rfl (zcI _)) ?_
              show zT G _ _ _ [zR x, zR q, zI t, zI s, zI (s + 1)] _ _ _ _ _ _ _
              refine zT.goto (tgt := 5) dX1_chosen_87 (by decide) ?_
              exact ih5 _ _ (by first | assumption | exact zq_i _ | exact zand_i _ _ | exact zor_i _ _ | exact zN _ | omega) (by first | assumption | exact zq_i _ | exact zand_i _ _ | exact zor_i _ _ | exact zN _ | omega) (by
                  rw [cCh_s s0, ← hv]
                  first
                    | rw [zite_t ⟨by assumption, by omega⟩]
                    | rw [zite_f (fun z => absurd z.1 (by assumption))]
                    | rw [zite_f (fun z => by have z2 := z.2; omega)]) (by omega)
  exact L5 _ _ _ (by first | assumption | exact zq_i _ | exact zand_i _ _ | exact zor_i _ _ | exact zN _ | omega) (by first | assumption | exact zq_i _ | exact zand_i _ _ | exact zor_i _ _ | exact zN _ | omega) (by rfl) (Nat.lt_succ_self _)

theorem C_X1_minute {G : zG} {S : zS} {m : zMm} {x p : Int} {K L O W : Int → Int} (hx : zPan S x) (h7 : m x 7 = p) (hkr : zKR S m p K) (hk : zKV K) (hL : ∀ j, 0 ≤ j → j < 16 → m (x + 39) j = L j) (hLb : ∀ j, 0 ≤ j → j < 16 → 0 ≤ L j ∧ L j ≤ 20) (hO : ∀ j, 0 ≤ j → j < 16 → m (x + 40) j = O j) (hOb : ∀ j, 0 ≤ j → j < 16 → 0 ≤ O j ∧ O j ≤ 100000) (hW : ∀ j, 0 ≤ j → j < K 0 → m (x + 42) j = W j) {q r t : Int} (hr : 0 ≤ r ∧ r ≤ 2) (hq : zk S q = (7 + r).toNat) (ht : 0 ≤ t ∧ t ≤ 100000) (hkp : p = x + 5 ∨ x + 91 ≤ p) (hWb : ∀ j, 0 ≤ j → j < K 0 → -1 ≤ W j ∧ W j < 16) (hWu : ∀ a b, 0 ≤ a → a < K 0 → 0 ≤ b → b < K 0 → W a = W b → W a ≠ -1 → a = b) : zC G mX1_minute 3 0 0 [zR x, zR q, zI t] S m (fun v S' m' => v = none ∧ S' = S ∧ (∀ a j, a ≠ x + 41 → m' a j = m a j) ∧ ∀ j, 0 ≤ j → j < K 0 → m' (x + 41) j = cFl K L O W r t (K 0).toNat (cN0 K L W) j) zNX := by
  have hkf := hkr.2.1
  have hk0 := hk.1
  obtain ⟨R, hR9⟩ : ∃ z, z = cFl K L O W r t (K 0).toNat (cN0 K L W) := ⟨_, rfl⟩
  have hR9 := hR9.symm
  refine zC.of [zR x, zR q, zI t, zU, zU, zU] (by decide) rfl (zEn1 (zcR _) (zEn1 (zcR _) (zEn1 (zcI _) (zEn0 (by simp))))) rfl ?_
  refine zT.iconst dX1_minute_0 ?_
  refine zT.istore_n 3 dX1_minute_1 rfl (by decide) (zpre1 rfl (zcI _)) ?_
  show zT G _ _ _ [zR x, zR q, zI t, zI 0, zU, zU] _ _ _ _ _ _ _
  have L2 : ∀ (N : Nat) (mA : zMm) (i : Int), (∀ a j, a ≠ x + 41 → mA a j = m a j) → (0 ≤ i) → (i ≤ K 0) → (∀ j, 0 ≤ j → j < i → mA (x + 41) j = cN0 K L W j) → ((K 0 - i).toNat) < N → zT G mX1_minute 3 2 [zR x, zR q, zI t, zI i, zU, zU] [] S mA 0 0 (fun v S' m' => v = none ∧ S' = S ∧ (∀ a j, a ≠ x + 41 → m' a j = m a j) ∧ ∀ j, 0 ≤ j → j < K 0 → m' (x + 41) j = cFl K L O W r t (K 0).toNat (cN0 K L W) j) zNX := by
    intro N
    induction N with
    | zero => intro mA i hf i0 i1 hN0 hN; exact absurd hN (Nat.not_lt_zero _)
    | succ N ih2 =>
      intro mA i hf i0 i1 hN0 hN
      refine zT.iload_n 3 dX1_minute_2 rfl rfl ?_
      refine zT.aload_n 0 dX1_minute_3 rfl rfl ?_
      refine zT.getR dX1_minute_4 fX1_66 rfl (zPan.k hx) (j := 7) (by decide) rfl ?_
      have r4 : mA x 7 = m x 7 := by rw [hf _ _ (by omega)]
      rw [r4]
      rw [h7]
      show zT G _ _ _ _ [zR p, zI i] _ _ _ _ _ _
      refine zT.getI dX1_minute_7 fX1_332 rfl (zKit.k hkr.1) (j := 11) (by decide) rfl (fun z7 => ?_)
      have r7 : mA p 211 = m p 211 := by rw [hf _ _ (by omega)]
      rw [r7] at z7 ⊢
      refine zT.ic_ge (tgt := 70) dX1_minute_10 (by decide) (by first | assumption | exact zq_i _ | exact zand_i _ _ | exact zor_i _ _ | exact zN _ | omega) (by first | assumption | exact zq_i _ | exact zand_i _ _ | exact zor_i _ _ | exact zN _ | omega) (fun c10 => ?_) (fun c10 => ?_)
      · refine zT.iconst dX1_minute_70 ?_
        refine zT.istore_n 3 dX1_minute_71 rfl (by decide) (zpre1 rfl (zcI _)) ?_
        show zT G _ _ _ [zR x, zR q, zI t, zI 0, zU, zU] _ _ _ _ _ _ _
        have L72 : ∀ (N : Nat) (mB : zMm) (Y : Int → Int) (i : Int) (f : Nat), (∀ a j, a ≠ x + 41 → mB a j = m a j) → (0 ≤ i) → (i ≤ K 0) → ((f : Int) = K 0 - i) → (∀ j, 0 ≤ j → j < K 0 → mB (x + 41) j = Y j) → (∀ j, 0 ≤ j → j < K 0 → -1 ≤ Y j ∧ Y j < 16) → (cFl K L O W r t f Y = R) → f < N → zT G mX1_minute 3 72 [zR x, zR q, zI t, zI i, zU, zU] [] S mB 0 0 (fun v S' m' => v = none ∧ S' = S ∧ (∀ a j, a ≠ x + 41 → m' a j = m a j) ∧ ∀ j, 0 ≤ j → j < K 0 → m' (x + 41) j = cFl K L O W r t (K 0).toNat (cN0 K L W) j) zNX := by
          intro N
          induction N with
          | zero => intro mB Y i f hf i0 i1 hff hYv hYb hT hN; exact absurd hN (Nat.not_lt_zero _)
          | succ N ih72 =>
            intro mB Y i f hf i0 i1 hff hYv hYb hT hN
            have h7B : mB x 7 = p := by rw [hf x 7 (by omega)]; exact h7
            have hkrB : zKR S mB p K := hkr.fr zGr.rf (fun a a0 a1 j => hf a j (by have := hkp; omega))
            have hLB : ∀ j, 0 ≤ j → j < 16 → mB (x + 39) j = L j := fun j a b => by rw [hf _ _ (by omega)]; exact hL j a b
            have hOB : ∀ j, 0 ≤ j → j < 16 → mB (x + 40) j = O j := fun j a b => by rw [hf _ _ (by omega)]; exact hO j a b
            have hWB : ∀ j, 0 ≤ j → j < K 0 → mB (x + 42) j = W j := fun j a b => by rw [hf _ _ (by omega)]; exact hW j a b
            refine zT.iload_n 3 dX1_minute_72 rfl rfl ?_
            refine zT.aload_n 0 dX1_minute_73 rfl rfl ?_
            refine zT.getR dX1_minute_74 fX1_66 rfl (zPan.k hx) (j := 7) (by decide) rfl ?_
            have r74 : mB x 7 = m x 7 := by rw [hf _ _ (by omega)]
            rw [r74]
            rw [h7]
            show zT G _ _ _ _ [zR p, zI i] _ _ _ _ _ _
            refine zT.getI dX1_minute_77 fX1_332 rfl (zKit.k hkr.1) (j := 11) (by decide) rfl (fun z77 => ?_)
            have r77 : mB p 211 = m p 211 := by rw [hf _ _ (by omega)]
            rw [r77] at z77 ⊢
            refine zT.ic_ge (tgt := 136) dX1_minute_80 (by decide) (by first | assumption | exact zq_i _ | exact zand_i _ _ | exact zor_i _ _ | exact zN _ | omega) (by first | assumption | exact zq_i _ | exact zand_i _ _ | exact zor_i _ _ | exact zN _ | omega) (fun c80 => ?_) (fun c80 => ?_)
            · refine zT.vret dX1_minute_136 rfl ?_
              have hz : f = 0 := by omega
              subst hz
              have hT : Y = R := hT
              exact ⟨rfl, rfl, hf, fun j a b => by rw [hR9, ← hT]; exact hYv j a b⟩
            · refine zT.aload_n 0 dX1_minute_83 rfl rfl ?_
              refine zT.bipush dX1_minute_84 ?_
              refine zT.callV (M' := mX1_freePlace) (b := x) [zI (-2)] [] dX1_minute_86 kX1_402 rfl rfl (ci := 0) (r := (RX1, TX1, 42)) rfl (zPan.k hx) (C_X1_freePlace hx h7B hkrB hk hLB hLb hOB hOb hYv hYb hWB (by omega) (fun a b a0 a1 b0 b1 a2 b2 => by have := hWb a a0 a1; omega)) (by decide) (k' := 0) (n' := 0) (by omega) (by omega) (by decide) (zdk (v := some (zI (cFp Y W (K 0) (-2)))) ?_) (fun _ _ _ _ h => h.elim)
              show zT G _ _ _ _ [zI (cFp Y W (K 0) (-2))] _ _ _ _ _ _
              rw [cFp_n (N := Y) (W := W) (pl := K 0) (d := -2) (fun j a b => by have := hWb j a b; omega)]
              show zT G _ _ _ _ [zI (zfi (fun p => Y p = -1) (K 0))] _ _ _ _ _ _
              have hzf := zfi_i (P := fun p => Y p = -1) (n := K 0) (by omega)
              refine zT.iconst dX1_minute_89 ?_
              refine zT.ic_ne (tgt := 94) dX1_minute_90 (by decide) (by first | assumption | exact zq_i _ | exact zand_i _ _ | exact zor_i _ _ | exact zN _ | omega) (by first | assumption | exact zq_i _ | exact zand_i _ _ | exact zor_i _ _ | exact zN _ | omega) (fun c90 => ?_) (fun c90 => ?_)
              · refine zT.aload_n 0 dX1_minute_94 rfl rfl ?_
                refine zT.aload_n 1 dX1_minute_95 rfl rfl ?_
                refine zT.iload_n 2 dX1_minute_96 rfl rfl ?_
                refine zT.callV (M' := mX1_chosen) (b := x) [zR q, zI t] [] dX1_minute_97 kX1_405 rfl rfl (ci := 0) (r := (RX1, TX1, 42)) rfl (zPan.k hx) (C_X1_chosen hx h7B hkrB hk hLB hLb hOB hOb hYv hYb hWB hr hq ht) (by decide) (k' := 0) (n' := 0) (by omega) (by omega) (by decide) (zdk (v := some (zI (cCh K L O Y r t (K 5)))) ?_) (fun _ _ _ _ h => h.elim)
                show zT G _ _ _ _ [zI (cCh K L O Y r t (K 5))] _ _ _ _ _ _
                have hch := cCh_i (K := K) (L := L) (O := O) (N := Y) (r := r) (m := t) (n := K 5) (by omega)
                obtain ⟨s, hs⟩ : ∃ z, z = cCh K L O Y r t (K 5) := ⟨_, rfl⟩
                rw [← hs] at hch ⊢
                show zT G _ _ _ _ [zI s] _ _ _ _ _ _
                refine zT.istore 4 dX1_minute_100 (by decide) (zpre1 rfl (zcI _)) ?_
                show zT G _ _ _ [zR x, zR q, zI t, zI i, zI s, zU] _ _ _ _ _ _ _
                refine zT.iload 4 dX1_minute_102 rfl ?_
                refine zT.iconst dX1_minute_104 ?_
                refine zT.ic_ne (tgt := 109) dX1_minute_105 (by decide) (by first | assumption | exact zq_i _ | exact zand_i _ _ | exact zor_i _ _ | exact zN _ | omega) (by first | assumption | exact zq_i _ | exact zand_i _ _ | exact zor_i _ _ | exact zN _ | omega) (fun c105 => ?_) (fun c105 => ?_)
                · have hs0 : 0 ≤ s ∧ s < K 5 := by omega
                  have hsd := cSd_b (K := K) (L := L) (s := s)
                  have hfz : zfi (fun p => Y p = -1) (K 0) ≠ -1 := by assumption
                  have hfp := cFp_b (W := W) (d := cSd K L s) (show 0 ≤ K 0 by omega) hfz
                  obtain ⟨g, rfl⟩ : ∃ z, f = z + 1 := ⟨f - 1, by omega⟩
                  have hT9 := hT
                  rw [cFl_1 hfz (by rw [← hs]; omega), ← hs] at hT9
                  refine zT.aload_n 0 dX1_minute_109 rfl rfl ?_
                  refine zT.iload 4 dX1_minute_110 rfl ?_
                  refine zT.callV (M' := mX1_sideOf) (b := x) [zI s] [] dX1_minute_112 kX1_393 rfl rfl (ci := 0) (r := (RX1, TX1, 42)) rfl (zPan.k hx) (C_X1_sideOf hx h7B hkrB hk hLB hLb hOB hOb hYv hYb hWB (by omega) (by omega)) (by decide) (k' := 0) (n' := 0) (by omega) (by omega) (by decide) (zdk (v := some (zI (cSd K L s))) ?_) (fun _ _ _ _ h => h.elim)
                  show zT G _ _ _ _ [zI (cSd K L s)] _ _ _ _ _ _
                  refine zT.istore 5 dX1_minute_115 (by decide) (zpre1 rfl (zcI _)) ?_
                  show zT G _ _ _ [zR x, zR q, zI t, zI i, zI s, zI (cSd K L s)] _ _ _ _ _ _ _
                  refine zT.aload_n 0 dX1_minute_117 rfl rfl ?_
                  refine zT.getF dX1_minute_118 fX1_144 rfl (zPan.k hx) (j := 27) (by decide) rfl (zPan.f27 hx) ?_
                  refine zT.aload_n 0 dX1_minute_121 rfl rfl ?_
                  refine zT.iload 5 dX1_minute_122 rfl ?_
                  refine zT.callV (M' := mX1_freePlace) (b := x) [zI (cSd K L s)] [zR (x + 41)] dX1_minute_124 kX1_402 rfl rfl (ci := 0) (r := (RX1, TX1, 42)) rfl (zPan.k hx) (C_X1_freePlace hx h7B hkrB hk hLB hLb hOB hOb hYv hYb hWB (by omega) (fun a b a0 a1 b0 b1 a2 b2 => hWu a b a0 a1 b0 b1 (by omega) (by omega))) (by decide) (k' := 0) (n' := 0) (by omega) (by omega) (by simp only [List.map, zcI, zcJ, zcR, List.sum_cons, List.sum_nil]; decide) (zdk (v := some (zI (cFp Y W (K 0) (cSd K L s)))) ?_) (fun _ _ _ _ h => h.elim)
                  show zT G _ _ _ _ [zI (cFp Y W (K 0) (cSd K L s)), zR (x + 41)] _ _ _ _ _ _
                  refine zT.iload 5 dX1_minute_127 rfl ?_
                  refine zT.iast dX1_minute_129 (zPan.a27 hx) (by first | assumption | exact zq_i _ | exact zand_i _ _ | exact zor_i _ _ | exact zN _ | omega) (by rw [(zPan.n27 hx)]; first | assumption | exact zq_i _ | exact zand_i _ _ | exact zor_i _ _ | exact zN _ | omega) (by first | assumption | exact zq_i _ | exact zand_i _ _ | exact zor_i _ _ | exact zN _ | omega) ?_
                  obtain ⟨m1, em1⟩ : ∃ z, z = zup mB (x + 41) (cFp Y W (K 0) (cSd K L s)) (cSd K L s) := ⟨_, rfl⟩
                  rw [← em1]
                  refine zT.iinc 3 dX1_minute_130 rfl (by decide) (zpre1 rfl (zcI _)) ?_
                  show zT G _ _ _ [zR x, zR q, zI t, zI (i + 1), zI s, zI (cSd K L s)] _ _ _ _ _ _ _
                  refine zT.goto (tgt := 72) dX1_minute_133 (by decide) ?_
                  refine zT.loc (V' := [zR x, zR q, zI t, zI (i + 1), zU, zU]) ?_ ⟨Or.inr rfl, Or.inr rfl, Or.inr rfl, Or.inr rfl, Or.inl rfl, Or.inl rfl, trivial⟩
                  exact ih72 _ (fSet Y (cFp Y W (K 0) (cSd K L s)) (cSd K L s)) _ g (by exact fun a j h => by rw [em1, zup_ne (by omega)]; exact hf a j h) (by omega) (by omega) (by omega) (by
                      exact fun j j0 j1 => by
                        rw [em1]
                        by_cases z : j = cFp Y W (K 0) (cSd K L s)
                        · rw [z, zup_at, fSet_at]
                        · rw [zup_ne (fun q9 => z q9.2), fSet_ne z]; exact hYv j j0 j1) (by
                      exact fun j j0 j1 => by
                        by_cases z : j = cFp Y W (K 0) (cSd K L s)
                        · rw [z, fSet_at]; omega
                        · rw [fSet_ne z]; exact hYb j j0 j1) (by exact hT9) (by omega)
                · refine zT.vret dX1_minute_108 rfl ?_
                  exact ⟨rfl, rfl, hf, fun j a b => by rw [hR9, ← hT, cFl_0 (Or.inr (by rw [← hs]; omega))]; exact hYv j a b⟩
              · refine zT.vret dX1_minute_93 rfl ?_
                exact ⟨rfl, rfl, hf, fun j a b => by rw [hR9, ← hT, cFl_0 (Or.inl (by omega))]; exact hYv j a b⟩
        exact L72 _ _ (cN0 K L W) _ (K 0).toNat (by exact hf) (by first | assumption | exact zq_i _ | exact zand_i _ _ | exact zor_i _ _ | exact zN _ | omega) (by first | assumption | exact zq_i _ | exact zand_i _ _ | exact zor_i _ _ | exact zN _ | omega) (by omega) (by exact fun j a b => hN0 j a (by omega)) (by
            exact fun j a b => by
              have := hWb j a b
              unfold cN0
              split <;> omega) (by exact hR9) (Nat.lt_succ_self _)
      · refine zT.aload_n 0 dX1_minute_13 rfl rfl ?_
        refine zT.getF dX1_minute_14 fX1_147 rfl (zPan.k hx) (j := 28) (by decide) rfl (zPan.f28 hx) ?_
        refine zT.iload_n 3 dX1_minute_17 rfl rfl ?_
        refine zT.iald dX1_minute_18 (zPan.a28 hx) (by first | assumption | exact zq_i _ | exact zand_i _ _ | exact zor_i _ _ | exact zN _ | omega) (by rw [(zPan.n28 hx)]; first | assumption | exact zq_i _ | exact zand_i _ _ | exact zor_i _ _ | exact zN _ | omega) (fun z18 => ?_)
        have r18 : mA (x + 42) i = m (x + 42) i := by rw [hf _ _ (by omega)]
        rw [r18] at z18 ⊢
        have w9 := hW i i0 (by omega)
        have wb9 := hWb i i0 (by omega)
        rw [w9]
        show zT G _ _ _ _ [zI (W i)] _ _ _ _ _ _
        refine zT.istore 4 dX1_minute_19 (by decide) (zpre1 rfl (zcI _)) ?_
        show zT G _ _ _ [zR x, zR q, zI t, zI i, zI (W i), zU] _ _ _ _ _ _ _
        refine zT.aload_n 0 dX1_minute_21 rfl rfl ?_
        refine zT.getF dX1_minute_22 fX1_144 rfl (zPan.k hx) (j := 27) (by decide) rfl (zPan.f27 hx) ?_
        refine zT.iload_n 3 dX1_minute_25 rfl rfl ?_
        refine zT.iload 4 dX1_minute_26 rfl ?_
        refine zT.iconst dX1_minute_28 ?_
        refine zT.ic_eq (tgt := 62) dX1_minute_29 (by decide) (by first | assumption | exact zq_i _ | exact zand_i _ _ | exact zor_i _ _ | exact zN _ | omega) (by first | assumption | exact zq_i _ | exact zand_i _ _ | exact zor_i _ _ | exact zN _ | omega) (fun c29 => ?_) (fun c29 => ?_)
        · refine zT.iconst dX1_minute_62 ?_
          refine zT.iast dX1_minute_63 (zPan.a27 hx) (by first | assumption | exact zq_i _ | exact zand_i _ _ | exact zor_i _ _ | exact zN _ | omega) (by rw [(zPan.n27 hx)]; first | assumption | exact zq_i _ | exact zand_i _ _ | exact zor_i _ _ | exact zN _ | omega) (by first | assumption | exact zq_i _ | exact zand_i _ _ | exact zor_i _ _ | exact zN _ | omega) ?_
          obtain ⟨m2, em2⟩ : ∃ z, z = zup mA (x + 41) i (-1) := ⟨_, rfl⟩
          rw [← em2]
          refine zT.iinc 3 dX1_minute_64 rfl (by decide) (zpre1 rfl (zcI _)) ?_
          show zT G _ _ _ [zR x, zR q, zI t, zI (i + 1), zI (W i), zU] _ _ _ _ _ _ _
          refine zT.goto (tgt := 2) dX1_minute_67 (by decide) ?_
          refine zT.loc (V' := [zR x, zR q, zI t, zI (i + 1), zU, zU]) ?_ ⟨Or.inr rfl, Or.inr rfl, Or.inr rfl, Or.inr rfl, Or.inl rfl, Or.inr rfl, trivial⟩
          exact ih2 _ _ (by exact fun a j h => by rw [em2, zup_ne (by omega)]; exact hf a j h) (by omega) (by omega) (by
              exact fun j j0 j1 => by
                by_cases z : j = i
                · rw [z, em2, zup_at]
                  unfold cN0
                  first | (rw [if_pos ⟨by omega, by omega, by omega⟩]; done) | (rw [if_neg (fun q9 => by have q1 := q9.1; have q2 := q9.2.1; have q3 := q9.2.2; omega)])
                · rw [em2, zup_ne (by omega)]; exact hN0 j j0 (by omega)) (by omega)
        · refine zT.aload_n 0 dX1_minute_32 rfl rfl ?_
          refine zT.getF dX1_minute_33 fX1_138 rfl (zPan.k hx) (j := 25) (by decide) rfl (zPan.f25 hx) ?_
          refine zT.iload 4 dX1_minute_36 rfl ?_
          refine zT.iald dX1_minute_38 (zPan.a25 hx) (by first | assumption | exact zq_i _ | exact zand_i _ _ | exact zor_i _ _ | exact zN _ | omega) (by rw [(zPan.n25 hx)]; first | assumption | exact zq_i _ | exact zand_i _ _ | exact zor_i _ _ | exact zN _ | omega) (fun z38 => ?_)
          have r38 : mA (x + 39) (W i) = m (x + 39) (W i) := by rw [hf _ _ (by omega)]
          rw [r38] at z38 ⊢
          have l9 := hL (W i) (by omega) (by omega)
          refine zT.if_le (tgt := 62) dX1_minute_39 (by decide) (by first | assumption | exact zq_i _ | exact zand_i _ _ | exact zor_i _ _ | exact zN _ | omega) (fun c39 => ?_) (fun c39 => ?_)
          · refine zT.iconst dX1_minute_62 ?_
            refine zT.iast dX1_minute_63 (zPan.a27 hx) (by first | assumption | exact zq_i _ | exact zand_i _ _ | exact zor_i _ _ | exact zN _ | omega) (by rw [(zPan.n27 hx)]; first | assumption | exact zq_i _ | exact zand_i _ _ | exact zor_i _ _ | exact zN _ | omega) (by first | assumption | exact zq_i _ | exact zand_i _ _ | exact zor_i _ _ | exact zN _ | omega) ?_
            obtain ⟨m3, em3⟩ : ∃ z, z = zup mA (x + 41) i (-1) := ⟨_, rfl⟩
            rw [← em3]
            refine zT.iinc 3 dX1_minute_64 rfl (by decide) (zpre1 rfl (zcI _)) ?_
            show zT G _ _ _ [zR x, zR q, zI t, zI (i + 1), zI (W i), zU] _ _ _ _ _ _ _
            refine zT.goto (tgt := 2) dX1_minute_67 (by decide) ?_
            refine zT.loc (V' := [zR x, zR q, zI t, zI (i + 1), zU, zU]) ?_ ⟨Or.inr rfl, Or.inr rfl, Or.inr rfl, Or.inr rfl, Or.inl rfl, Or.inr rfl, trivial⟩
            exact ih2 _ _ (by exact fun a j h => by rw [em3, zup_ne (by omega)]; exact hf a j h) (by omega) (by omega) (by
                exact fun j j0 j1 => by
                  by_cases z : j = i
                  · rw [z, em3, zup_at]
                    unfold cN0
                    first | (rw [if_pos ⟨by omega, by omega, by omega⟩]; done) | (rw [if_neg (fun q9 => by have q1 := q9.1; have q2 := q9.2.1; have q3 := q9.2.2; omega)])
                  · rw [em3, zup_ne (by omega)]; exact hN0 j j0 (by omega)) (by omega)
          · refine zT.aload_n 0 dX1_minute_42 rfl rfl ?_
            refine zT.getR dX1_minute_43 fX1_66 rfl (zPan.k hx) (j := 7) (by decide) rfl ?_
            have r43 : mA x 7 = m x 7 := by rw [hf _ _ (by omega)]
            rw [r43]
            rw [h7]
            show zT G _ _ _ _ [zR p, zI i, zR (x + 41)] _ _ _ _ _ _
            refine zT.getF dX1_minute_46 fX1_246 rfl (zKit.k hkr.1) (j := 7) (by decide) rfl (zKit.f207 hkr.1) ?_
            refine zT.iload 4 dX1_minute_49 rfl ?_
            refine zT.iconst dX1_minute_51 ?_
            refine zT.idiv dX1_minute_52 (by first | assumption | exact zq_i _ | exact zand_i _ _ | exact zor_i _ _ | exact zN _ | omega) (by first | assumption | exact zq_i _ | exact zand_i _ _ | exact zor_i _ _ | exact zN _ | omega) (by first | assumption | exact zq_i _ | exact zand_i _ _ | exact zor_i _ _ | exact zN _ | omega) (by first | assumption | exact zq_i _ | exact zand_i _ _ | exact zor_i _ _ | exact zN _ | omega) ?_
            refine zT.zald dX1_minute_53 (zKit.a207 hkr.1) (by first | assumption | exact zq_i _ | exact zand_i _ _ | exact zor_i _ _ | exact zN _ | omega) (by rw [(zKit.n207 hkr.1)]; first | assumption | exact zq_i _ | exact zand_i _ _ | exact zor_i _ _ | exact zN _ | omega) (fun z53 => ?_)
            have r53 : mA (p + 8) ((W i) / 2) = m (p + 8) ((W i) / 2) := by rw [hf _ _ (by omega)]
            rw [r53] at z53 ⊢
            have on9 := (hkr.2.2.1 (W i / 2) (by omega) (by omega)).2.2
            have onb := hk.2.1 (W i / 2) (by omega) (by omega)
            refine zT.if_eq (tgt := 62) dX1_minute_54 (by decide) (by first | assumption | exact zq_i _ | exact zand_i _ _ | exact zor_i _ _ | exact zN _ | omega) (fun c54 => ?_) (fun c54 => ?_)
            · refine zT.iconst dX1_minute_62 ?_
              refine zT.iast dX1_minute_63 (zPan.a27 hx) (by first | assumption | exact zq_i _ | exact zand_i _ _ | exact zor_i _ _ | exact zN _ | omega) (by rw [(zPan.n27 hx)]; first | assumption | exact zq_i _ | exact zand_i _ _ | exact zor_i _ _ | exact zN _ | omega) (by first | assumption | exact zq_i _ | exact zand_i _ _ | exact zor_i _ _ | exact zN _ | omega) ?_
              obtain ⟨m4, em4⟩ : ∃ z, z = zup mA (x + 41) i (-1) := ⟨_, rfl⟩
              rw [← em4]
              refine zT.iinc 3 dX1_minute_64 rfl (by decide) (zpre1 rfl (zcI _)) ?_
              show zT G _ _ _ [zR x, zR q, zI t, zI (i + 1), zI (W i), zU] _ _ _ _ _ _ _
              refine zT.goto (tgt := 2) dX1_minute_67 (by decide) ?_
              refine zT.loc (V' := [zR x, zR q, zI t, zI (i + 1), zU, zU]) ?_ ⟨Or.inr rfl, Or.inr rfl, Or.inr rfl, Or.inr rfl, Or.inl rfl, Or.inr rfl, trivial⟩
              exact ih2 _ _ (by exact fun a j h => by rw [em4, zup_ne (by omega)]; exact hf a j h) (by omega) (by omega) (by
                  exact fun j j0 j1 => by
                    by_cases z : j = i
                    · rw [z, em4, zup_at]
                      unfold cN0
                      first | (rw [if_pos ⟨by omega, by omega, by omega⟩]; done) | (rw [if_neg (fun q9 => by have q1 := q9.1; have q2 := q9.2.1; have q3 := q9.2.2; omega)])
                    · rw [em4, zup_ne (by omega)]; exact hN0 j j0 (by omega)) (by omega)
            · refine zT.iload 4 dX1_minute_57 rfl ?_
              refine zT.goto (tgt := 63) dX1_minute_59 (by decide) ?_
              refine zT.iast dX1_minute_63 (zPan.a27 hx) (by first | assumption | exact zq_i _ | exact zand_i _ _ | exact zor_i _ _ | exact zN _ | omega) (by rw [(zPan.n27 hx)]; first | assumption | exact zq_i _ | exact zand_i _ _ | exact zor_i _ _ | exact zN _ | omega) (by first | assumption | exact zq_i _ | exact zand_i _ _ | exact zor_i _ _ | exact zN _ | omega) ?_
              obtain ⟨m5, em5⟩ : ∃ z, z = zup mA (x + 41) i (W i) := ⟨_, rfl⟩
              rw [← em5]
              refine zT.iinc 3 dX1_minute_64 rfl (by decide) (zpre1 rfl (zcI _)) ?_
              show zT G _ _ _ [zR x, zR q, zI t, zI (i + 1), zI (W i), zU] _ _ _ _ _ _ _
              refine zT.goto (tgt := 2) dX1_minute_67 (by decide) ?_
              refine zT.loc (V' := [zR x, zR q, zI t, zI (i + 1), zU, zU]) ?_ ⟨Or.inr rfl, Or.inr rfl, Or.inr rfl, Or.inr rfl, Or.inl rfl, Or.inr rfl, trivial⟩
              exact ih2 _ _ (by exact fun a j h => by rw [em5, zup_ne (by omega)]; exact hf a j h) (by omega) (by omega) (by
                  exact fun j j0 j1 => by
                    by_cases z : j = i
                    · rw [z, em5, zup_at]
                      unfold cN0
                      first | (rw [if_pos ⟨by omega, by omega, by omega⟩]; done) | (rw [if_neg (fun q9 => by have q1 := q9.1; have q2 := q9.2.1; have q3 := q9.2.2; omega)])
                    · rw [em5, zup_ne (by omega)]; exact hN0 j j0 (by omega)) (by omega)
  exact L2 _ _ _ (by exact fun _ _ _ => rfl) (by first | assumption | exact zq_i _ | exact zand_i _ _ | exact zor_i _ _ | exact zN _ | omega) (by first | assumption | exact zq_i _ | exact zand_i _ _ | exact zor_i _ _ | exact zN _ | omega) (by exact fun j a b => by omega) (Nat.lt_succ_self _)

