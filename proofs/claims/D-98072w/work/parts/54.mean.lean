/-! common, mean (written by gen/m_mean.py) -/
theorem C_X1_common {G : zG} {S : zS} {m : zMm} : ∀ (N : Nat) (a b : Int), 0 ≤ a → a ≤ 1000000 → 0 ≤ b → b ≤ N → b ≤ 1000000 → zC G mX1_common (N + 1) 0 0 [zJ a, zJ b] S m (zDet (some (zJ (zg a b))) S m) zNX := by
  intro N
  induction N with
  | zero =>
    intro a b ha ha2 hb hb2 hb3
    have eb : b = 0 := by omega
    subst eb
    refine zC.of [zJ a, zU, zJ 0, zU] (by decide) rfl (zEn2 (zcJ _) (zEn2 (zcJ _) (zEn0 (by simp)))) rfl ?_
    refine zT.lload_n 2 dX1_common_0 rfl rfl ?_
    refine zT.lconst dX1_common_1 ?_
    show zT G _ _ _ _ (zJ 0 :: _) _ _ _ _ _ _
    refine zT.lc_ne (tgt := 10) dX1_common_2 dX1_common_3 (by decide) (by omega) (by omega) (fun c => absurd rfl c) (fun c => ?_)
    refine zT.lload_n 0 dX1_common_6 rfl rfl ?_
    refine zT.goto (tgt := 17) dX1_common_7 (by decide) ?_
    refine zT.lret dX1_common_17 rfl ?_
    exact ⟨by rw [zg_0 ha], rfl, rfl⟩
  | succ N ih =>
    intro a b ha ha2 hb hb2 hb3
    have hN : ((N + 1 : Nat) : Int) = (N : Int) + 1 := by omega
    refine zC.of [zJ a, zU, zJ b, zU] (by decide) rfl (zEn2 (zcJ _) (zEn2 (zcJ _) (zEn0 (by simp)))) rfl ?_
    refine zT.lload_n 2 dX1_common_0 rfl rfl ?_
    refine zT.lconst dX1_common_1 ?_
    show zT G _ _ _ _ (zJ 0 :: _) _ _ _ _ _ _
    refine zT.lc_ne (tgt := 10) dX1_common_2 dX1_common_3 (by decide) (by omega) (by omega) (fun c => ?_) (fun c => ?_)
    · refine zT.lload_n 2 dX1_common_10 rfl rfl ?_
      refine zT.lload_n 0 dX1_common_11 rfl rfl ?_
      refine zT.lload_n 2 dX1_common_12 rfl rfl ?_
      refine zT.lrem dX1_common_13 (by omega) (by omega) (by omega) (by omega) ?_
      have hm0 := Int.emod_nonneg a (show b ≠ 0 by omega)
      have hm1 := Int.emod_lt_of_pos a (show 0 < b by omega)
      refine zT.callS (M' := mX1_common) [zJ b, zJ (a % b)] [] dX1_common_14 kX1_438 rfl rfl (ih b (a % b) hb (by omega) hm0 (by omega) (by omega)) (by omega) (k' := 0) (n' := 0) (by omega) (by omega) (by decide) (zdk (v := some (zJ (zg b (a % b)))) ?_) (fun _ _ _ _ h => h.elim)
      refine zT.lret dX1_common_17 rfl ?_
      exact ⟨by rw [← zg_s ha (by omega)], rfl, rfl⟩
    · have eb : b = 0 := by omega
      subst eb
      refine zT.lload_n 0 dX1_common_6 rfl rfl ?_
      refine zT.goto (tgt := 17) dX1_common_7 (by decide) ?_
      refine zT.lret dX1_common_17 rfl ?_
      exact ⟨by rw [zg_0 ha], rfl, rfl⟩
theorem C_X13_common {G : zG} {S : zS} {m : zMm} {a b : Int} (ha : 0 ≤ a) (ha2 : a ≤ 1000000) (hb : 0 ≤ b) (hb2 : b ≤ 1000000) : zC G mX13_common 0 0 0 [zJ a, zJ b] S m (zDet (some (zJ (zg a b))) S m) zNX := by
  refine zC.of [zJ a, zU, zJ b, zU, zU, zU, zU, zU, zU, zU] (by decide) rfl (zEn2 (zcJ _) (zEn2 (zcJ _) (zEn0 (by simp)))) rfl ?_
  refine zT.lload_n 0 dX13_common_0 rfl rfl ?_
  refine zT.lstore 4 dX13_common_1 (by decide) (zpreU rfl) ?_
  show zT G _ _ _ [zJ a, zU, zJ b, zU, zJ a, zU, zU, zU, zU, zU] _ _ _ _ _ _ _
  refine zT.lload_n 2 dX13_common_3 rfl rfl ?_
  refine zT.lstore 6 dX13_common_4 (by decide) (zpreU rfl) ?_
  show zT G _ _ _ [zJ a, zU, zJ b, zU, zJ a, zU, zJ b, zU, zU, zU] _ _ _ _ _ _ _
  have L6 : ∀ (N : Nat) (u : Int) (v : Int), (0 ≤ u) → (u ≤ 1000000) → (0 ≤ v) → (v ≤ 1000000) → (zg u v = zg a b) → v.toNat < N → zT G mX13_common 0 6 [zJ a, zU, zJ b, zU, zJ u, zU, zJ v, zU, zU, zU] [] S m 0 0 (zDet (some (zJ (zg a b))) S m) zNX := by
    intro N
    induction N with
    | zero => intro u v u0 u1 v0 v1 hv hN; exact absurd hN (Nat.not_lt_zero _)
    | succ N ih6 =>
      intro u v u0 u1 v0 v1 hv hN
      refine zT.lload 6 dX13_common_6 rfl ?_
      refine zT.lconst dX13_common_8 ?_
      show zT G _ _ _ _ (zJ 0 :: _) _ _ _ _ _ _
      refine zT.lc_le (tgt := 31) dX13_common_9 dX13_common_10 (by decide) (by first | assumption | exact zq_i _ | exact zand_i _ _ | exact zor_i _ _ | exact zxor_i _ _ | exact zN _ | omega) (by first | assumption | exact zq_i _ | exact zand_i _ _ | exact zor_i _ _ | exact zxor_i _ _ | exact zN _ | omega) (fun c9 => ?_) (fun c9 => ?_)
      · refine zT.lload 4 dX13_common_31 rfl ?_
        refine zT.lret dX13_common_33 rfl ?_
        exact ⟨by rw [← hv, show v = 0 by omega, zg_0 u0], rfl, rfl⟩
      · refine zT.lload 4 dX13_common_13 rfl ?_
        refine zT.lload 6 dX13_common_15 rfl ?_
        refine zT.lrem dX13_common_17 (by first | assumption | exact zq_i _ | exact zand_i _ _ | exact zor_i _ _ | exact zxor_i _ _ | exact zN _ | omega) (by first | assumption | exact zq_i _ | exact zand_i _ _ | exact zor_i _ _ | exact zxor_i _ _ | exact zN _ | omega) (by first | assumption | exact zq_i _ | exact zand_i _ _ | exact zor_i _ _ | exact zxor_i _ _ | exact zN _ | omega) (by first | assumption | exact zq_i _ | exact zand_i _ _ | exact zor_i _ _ | exact zxor_i _ _ | exact zN _ | omega) ?_
        refine zT.lstore 8 dX13_common_18 (by decide) (zpreU rfl) ?_
        show zT G _ _ _ [zJ a, zU, zJ b, zU, zJ u, zU, zJ v, zU, zJ (u % v), zU] _ _ _ _ _ _ _
        have hm0 := Int.emod_nonneg u (show v ≠ 0 by omega)
        have hm1 := Int.emod_lt_of_pos u (show 0 < v by omega)
        refine zT.lload 6 dX13_common_20 rfl ?_
        refine zT.lstore 4 dX13_common_22 (by decide) (zpreU rfl) ?_
        show zT G _ _ _ [zJ a, zU, zJ b, zU, zJ v, zU, zJ v, zU, zJ (u % v), zU] _ _ _ _ _ _ _
        refine zT.lload 8 dX13_common_24 rfl ?_
        refine zT.lstore 6 dX13_common_26 (by decide) (zpreU rfl) ?_
        show zT G _ _ _ [zJ a, zU, zJ b, zU, zJ v, zU, zJ (u % v), zU, zJ (u % v), zU] _ _ _ _ _ _ _
        refine zT.goto (tgt := 6) dX13_common_28 (by decide) ?_
        refine zT.loc (V' := [zJ a, zU, zJ b, zU, zJ v, zU, zJ (u % v), zU, zU, zU]) ?_ ⟨Or.inr rfl, Or.inr rfl, Or.inr rfl, Or.inr rfl, Or.inr rfl, Or.inr rfl, Or.inr rfl, Or.inr rfl, Or.inl rfl, Or.inr rfl, trivial⟩
        exact ih6 _ _ (by first | assumption | exact zq_i _ | exact zand_i _ _ | exact zor_i _ _ | exact zxor_i _ _ | exact zN _ | omega) (by first | assumption | exact zq_i _ | exact zand_i _ _ | exact zor_i _ _ | exact zxor_i _ _ | exact zN _ | omega) (by first | assumption | exact zq_i _ | exact zand_i _ _ | exact zor_i _ _ | exact zxor_i _ _ | exact zN _ | omega) (by first | assumption | exact zq_i _ | exact zand_i _ _ | exact zor_i _ _ | exact zxor_i _ _ | exact zN _ | omega) (by rw [← hv, ← zg_s u0 (by omega)]) (by omega)
  exact L6 _ _ _ (by first | assumption | exact zq_i _ | exact zand_i _ _ | exact zor_i _ _ | exact zxor_i _ _ | exact zN _ | omega) (by first | assumption | exact zq_i _ | exact zand_i _ _ | exact zor_i _ _ | exact zxor_i _ _ | exact zN _ | omega) (by first | assumption | exact zq_i _ | exact zand_i _ _ | exact zor_i _ _ | exact zxor_i _ _ | exact zN _ | omega) (by first | assumption | exact zq_i _ | exact zand_i _ _ | exact zor_i _ _ | exact zxor_i _ _ | exact zN _ | omega) (by rfl) (Nat.lt_succ_self _)

def fUp (K : Int → Int) (s : Int) : Int := K 4 * K 4 * K (8 + 3 * s + 0) + K 4 * (K 4 - K 3) * K (8 + 3 * s + 1)
def fBl (K : Int → Int) : Int := (K 4 - K 3) * (K 4 - K 3)
def fMean (K : Int → Int) (s c : Int) : Int := if c = 0 then fUp K s / zg (fUp K s) (fBl K) else fBl K / zg (fUp K s) (fBl K)
theorem fMn_b {K : Int → Int} (h : zKV K) {s : Int} (h0 : 0 ≤ s) (h1 : s < K 5) : (0 ≤ fUp K s ∧ fUp K s ≤ 16000) ∧ 1 ≤ fBl K ∧ fBl K ≤ 400 := by
  have k0 := h.1
  have k1 := h.2.1 s h0 (by omega)
  have a1 := zmulb (a := K 4) (A := 20) (b := K 4) (B := 20) (by omega) (by omega) (by omega) (by omega)
  have a2 := zmulb (a := K 4 * K 4) (A := 400) (b := K (8 + 3 * s + 0)) (B := 20) (by omega) (by omega) (by omega) (by omega)
  have a3 := zmulb (a := K 4) (A := 20) (b := K 4 - K 3) (B := 20) (by omega) (by omega) (by omega) (by omega)
  have a4 := zmulb (a := K 4 * (K 4 - K 3)) (A := 400) (b := K (8 + 3 * s + 1)) (B := 20) (by omega) (by omega) (by omega) (by omega)
  have a5 := zmulb (a := K 4 - K 3) (A := 20) (b := K 4 - K 3) (B := 20) (by omega) (by omega) (by omega) (by omega)
  have a6 : 0 < (K 4 - K 3) * (K 4 - K 3) := Int.mul_pos (by omega) (by omega)
  unfold fUp fBl
  omega
theorem fUp_m {K : Int → Int} {s : Int} : K 4 * (K (8 + 3 * s + 0) * K 4 + K (8 + 3 * s + 1) * (K 4 - K 3)) = fUp K s := by
  unfold fUp
  grind
theorem C_X1_mean {G : zG}  {S : zS} {m : zMm} {x : Int} {A : zMm} (hR : rel S m x A) {s c : Int} (hs : zi s) (hc : zi c) (hP : (0 ≤ s ∧ s < (aK (A 0 1023) (A 2)) 5) ∧ 0 ≤ c ∧ c ≤ 1) : zC G mX1_mean 402 0 0 [zR x, zI s, zI c] S m (zDet (some (zJ (fMean (aK (A 0 1023) (A 2)) s c))) S m) zNX := by
  have hk := hR.vki.1
  have hKi := (hR.ki.2.1).ki hk
  have hKn := hKi.nu
  have hkr := hR.ki.2.1
  have hkf := hkr.2.1
  have hk0 := hk.1
  refine zC.of [zR x, zI s, zI c, zU, zU, zU, zU, zU, zU, zU, zU, zU, zU] (by decide) rfl (zEn1 (zcR _) (zEn1 (zcI _) (zEn1 (zcI _) (zEn0 (by simp))))) rfl ?_
  refine zT.aload_n 0 dX1_mean_0 rfl rfl ?_
  refine zT.iload_n 1 dX1_mean_1 rfl rfl ?_
  refine zT.callV (M' := mX1_isSlice) (b := x) [zI s] [] dX1_mean_2 kX1_235 rfl rfl (ci := 0) (r := (RX1, TX1, 42)) rfl (zPan.k hR.sh) (C_X1_isSlice hR (by first | assumption | exact zq_i _ | exact zand_i _ _ | exact zor_i _ _ | exact zxor_i _ _ | exact zN _ | omega)) (by decide) (k' := 0) (n' := 0) (by omega) (by omega) (by decide) (zdk (v := some (zI (zq (0 ≤ s ∧ s < (aK (A 0 1023) (A 2)) 5)))) ?_) (fun _ _ _ _ h => h.elim)
  show zT G _ _ _ _ [zI (zq (0 ≤ s ∧ s < (aK (A 0 1023) (A 2)) 5))] _ _ _ _ _ _
  refine zT.if_eqB (tgt := 21) dX1_mean_5 (by decide) (fun c5 => ?_) (fun c5 => ?_)
  · refine zT.iconst dX1_mean_21 ?_
    exfalso; omega
  · refine zT.iload_n 2 dX1_mean_8 rfl rfl ?_
    refine zT.iconst dX1_mean_9 ?_
    refine zT.iconst dX1_mean_10 ?_
    refine zT.callS (M' := mX1_isIn) [zI c, zI 0, zI 1] [] dX1_mean_11 kX1_231 rfl rfl (C_X1_isIn (by first | assumption | exact zq_i _ | exact zand_i _ _ | exact zor_i _ _ | exact zxor_i _ _ | exact zN _ | omega) (by first | assumption | exact zq_i _ | exact zand_i _ _ | exact zor_i _ _ | exact zxor_i _ _ | exact zN _ | omega) (by first | assumption | exact zq_i _ | exact zand_i _ _ | exact zor_i _ _ | exact zxor_i _ _ | exact zN _ | omega)) (by decide) (k' := 0) (n' := 0) (by omega) (by omega) (by decide) (zdk (v := some (zI (zq (0 ≤ c ∧ c ≤ 1)))) ?_) (fun _ _ _ _ h => h.elim)
    show zT G _ _ _ _ [zI (zq (0 ≤ c ∧ c ≤ 1))] _ _ _ _ _ _
    refine zT.if_eqB (tgt := 21) dX1_mean_14 (by decide) (fun c14 => ?_) (fun c14 => ?_)
    · refine zT.iconst dX1_mean_21 ?_
      exfalso; omega
    · refine zT.iconst dX1_mean_17 ?_
      refine zT.goto (tgt := 22) dX1_mean_18 (by decide) ?_
      refine zT.callS (M' := mX1_must) [zI 1] [] dX1_mean_22 kX1_239 rfl rfl (C_X1_must (by omega) (by omega)) (by decide) (k' := 0) (n' := 0) (by omega) (by omega) (by decide) (zdk (v := none) ?_) (fun _ _ _ _ h => h.elim)
      show zT G _ _ _ _ [] _ _ _ _ _ _
      have hn4 : m (m x 7) 215 = (aK (A 0 1023) (A 2)) 4 := hkf.2.2.2.2.1
      have hn3 : m (m x 7) 214 = (aK (A 0 1023) (A 2)) 3 := hkf.2.2.2.1
      have hub := fMn_b hk (s := s) (by omega) (by omega)
      have hsl := hkr.2.2.1 s (by omega) (by omega)
      have hgp := zg_p hub.1.1 (show 0 < fBl (aK (A 0 1023) (A 2)) by omega)
      refine zT.aload_n 0 dX1_mean_25 rfl rfl ?_
      refine zT.getR dX1_mean_26 fX1_66 rfl (zPan.k hR.sh) (j := 7) (by decide) rfl ?_
      refine zT.getI dX1_mean_29 fX1_442 rfl (zKit.k hR.ki.2.1.1) (j := 15) (by decide) rfl (fun z29 => ?_)
      rw [hn4]
      refine zT.i2l dX1_mean_32 (by first | assumption | exact zq_i _ | exact zand_i _ _ | exact zor_i _ _ | exact zxor_i _ _ | exact zN _ | omega) ?_
      refine zT.lstore_n 3 dX1_mean_33 rfl (by decide) (zpre1 rfl (zcI _)) ?_
      show zT G _ _ _ [zR x, zI s, zI c, zJ ((aK (A 0 1023) (A 2)) 4), zU, zU, zU, zU, zU, zU, zU, zU, zU] _ _ _ _ _ _ _
      refine zT.lload_n 3 dX1_mean_34 rfl rfl ?_
      refine zT.aload_n 0 dX1_mean_35 rfl rfl ?_
      refine zT.getR dX1_mean_36 fX1_66 rfl (zPan.k hR.sh) (j := 7) (by decide) rfl ?_
      refine zT.getI dX1_mean_39 fX1_445 rfl (zKit.k hR.ki.2.1.1) (j := 14) (by decide) rfl (fun z39 => ?_)
      rw [hn3]
      refine zT.i2l dX1_mean_42 (by first | assumption | exact zq_i _ | exact zand_i _ _ | exact zor_i _ _ | exact zxor_i _ _ | exact zN _ | omega) ?_
      refine zT.lsub dX1_mean_43 ?_
      refine zT.lstore 5 dX1_mean_44 (by decide) (zpreU rfl) ?_
      show zT G _ _ _ [zR x, zI s, zI c, zJ ((aK (A 0 1023) (A 2)) 4), zU, zJ (((aK (A 0 1023) (A 2)) 4) - ((aK (A 0 1023) (A 2)) 3)), zU, zU, zU, zU, zU, zU, zU] _ _ _ _ _ _ _
      refine zT.lload_n 3 dX1_mean_46 rfl rfl ?_
      refine zT.lload_n 3 dX1_mean_47 rfl rfl ?_
      refine zT.lmul dX1_mean_48 ?_
      refine zT.aload_n 0 dX1_mean_49 rfl rfl ?_
      refine zT.getR dX1_mean_50 fX1_66 rfl (zPan.k hR.sh) (j := 7) (by decide) rfl ?_
      refine zT.getF dX1_mean_53 fX1_243 rfl (zKit.k hR.ki.2.1.1) (j := 2) (by decide) rfl (zKit.f202 hR.ki.2.1.1) ?_
      refine zT.iconst dX1_mean_56 ?_
      refine zT.iload_n 1 dX1_mean_57 rfl rfl ?_
      refine zT.imul dX1_mean_58 ?_
      refine zT.iald dX1_mean_59 (zKit.a202 hR.ki.2.1.1) (by first | assumption | exact zq_i _ | exact zand_i _ _ | exact zor_i _ _ | exact zxor_i _ _ | exact zN _ | omega) (by rw [(zKit.n202 hR.ki.2.1.1)]; first | assumption | exact zq_i _ | exact zand_i _ _ | exact zor_i _ _ | exact zxor_i _ _ | exact zN _ | omega) (fun z59 => ?_)
      rw [hsl.1]
      refine zT.i2l dX1_mean_60 (by first | assumption | exact zq_i _ | exact zand_i _ _ | exact zor_i _ _ | exact zxor_i _ _ | exact zN _ | omega) ?_
      refine zT.lmul dX1_mean_61 ?_
      refine zT.lload_n 3 dX1_mean_62 rfl rfl ?_
      refine zT.lload 5 dX1_mean_63 rfl ?_
      refine zT.lmul dX1_mean_65 ?_
      refine zT.aload_n 0 dX1_mean_66 rfl rfl ?_
      refine zT.getR dX1_mean_67 fX1_66 rfl (zPan.k hR.sh) (j := 7) (by decide) rfl ?_
      refine zT.getF dX1_mean_70 fX1_243 rfl (zKit.k hR.ki.2.1.1) (j := 2) (by decide) rfl (zKit.f202 hR.ki.2.1.1) ?_
      refine zT.iconst dX1_mean_73 ?_
      refine zT.iload_n 1 dX1_mean_74 rfl rfl ?_
      refine zT.imul dX1_mean_75 ?_
      refine zT.iconst dX1_mean_76 ?_
      refine zT.iadd dX1_mean_77 ?_
      refine zT.iald dX1_mean_78 (zKit.a202 hR.ki.2.1.1) (by first | assumption | exact zq_i _ | exact zand_i _ _ | exact zor_i _ _ | exact zxor_i _ _ | exact zN _ | omega) (by rw [(zKit.n202 hR.ki.2.1.1)]; first | assumption | exact zq_i _ | exact zand_i _ _ | exact zor_i _ _ | exact zxor_i _ _ | exact zN _ | omega) (fun z78 => ?_)
      rw [hsl.2.1]
      refine zT.i2l dX1_mean_79 (by first | assumption | exact zq_i _ | exact zand_i _ _ | exact zor_i _ _ | exact zxor_i _ _ | exact zN _ | omega) ?_
      refine zT.lmul dX1_mean_80 ?_
      refine zT.ladd dX1_mean_81 ?_
      refine zT.lstore 7 dX1_mean_82 (by decide) (zpreU rfl) ?_
      show zT G _ _ _ [zR x, zI s, zI c, zJ ((aK (A 0 1023) (A 2)) 4), zU, zJ (((aK (A 0 1023) (A 2)) 4) - ((aK (A 0 1023) (A 2)) 3)), zU, zJ (((((aK (A 0 1023) (A 2)) 4) * ((aK (A 0 1023) (A 2)) 4)) * ((aK (A 0 1023) (A 2)) (8 + 3 * s + 0))) + ((((aK (A 0 1023) (A 2)) 4) * (((aK (A 0 1023) (A 2)) 4) - ((aK (A 0 1023) (A 2)) 3))) * ((aK (A 0 1023) (A 2)) (8 + 3 * s + 1)))), zU, zU, zU, zU, zU] _ _ _ _ _ _ _
      rw [show (((((aK (A 0 1023) (A 2)) 4) * ((aK (A 0 1023) (A 2)) 4)) * ((aK (A 0 1023) (A 2)) (8 + 3 * s + 0))) + ((((aK (A 0 1023) (A 2)) 4) * (((aK (A 0 1023) (A 2)) 4) - ((aK (A 0 1023) (A 2)) 3))) * ((aK (A 0 1023) (A 2)) (8 + 3 * s + 1))) : Int) = fUp (aK (A 0 1023) (A 2)) s from rfl]
      refine zT.lload 5 dX1_mean_84 rfl ?_
      refine zT.lload 5 dX1_mean_86 rfl ?_
      refine zT.lmul dX1_mean_88 ?_
      refine zT.lstore 9 dX1_mean_89 (by decide) (zpreU rfl) ?_
      show zT G _ _ _ [zR x, zI s, zI c, zJ ((aK (A 0 1023) (A 2)) 4), zU, zJ (((aK (A 0 1023) (A 2)) 4) - ((aK (A 0 1023) (A 2)) 3)), zU, zJ (fUp (aK (A 0 1023) (A 2)) s), zU, zJ ((((aK (A 0 1023) (A 2)) 4) - ((aK (A 0 1023) (A 2)) 3)) * (((aK (A 0 1023) (A 2)) 4) - ((aK (A 0 1023) (A 2)) 3))), zU, zU, zU] _ _ _ _ _ _ _
      rw [show ((((aK (A 0 1023) (A 2)) 4) - ((aK (A 0 1023) (A 2)) 3)) * (((aK (A 0 1023) (A 2)) 4) - ((aK (A 0 1023) (A 2)) 3)) : Int) = fBl (aK (A 0 1023) (A 2)) from rfl]
      refine zT.lload 7 dX1_mean_91 rfl ?_
      refine zT.lload 9 dX1_mean_93 rfl ?_
      refine zT.callS (M' := mX1_common) [zJ (fUp (aK (A 0 1023) (A 2)) s), zJ (fBl (aK (A 0 1023) (A 2)))] [] dX1_mean_95 kX1_438 rfl rfl (C_X1_common 400 _ _ hub.1.1 (by omega) (by omega) (by omega) (by omega)) (by decide) (k' := 0) (n' := 0) (by omega) (by omega) (by decide) (zdk (v := some (zJ (zg (fUp (aK (A 0 1023) (A 2)) s) (fBl (aK (A 0 1023) (A 2)))))) ?_) (fun _ _ _ _ h => h.elim)
      show zT G _ _ _ _ [zJ (zg (fUp (aK (A 0 1023) (A 2)) s) (fBl (aK (A 0 1023) (A 2))))] _ _ _ _ _ _
      refine zT.lstore 11 dX1_mean_98 (by decide) (zpreU rfl) ?_
      show zT G _ _ _ [zR x, zI s, zI c, zJ ((aK (A 0 1023) (A 2)) 4), zU, zJ (((aK (A 0 1023) (A 2)) 4) - ((aK (A 0 1023) (A 2)) 3)), zU, zJ (fUp (aK (A 0 1023) (A 2)) s), zU, zJ (fBl (aK (A 0 1023) (A 2))), zU, zJ (zg (fUp (aK (A 0 1023) (A 2)) s) (fBl (aK (A 0 1023) (A 2)))), zU] _ _ _ _ _ _ _
      refine zT.iload_n 2 dX1_mean_100 rfl rfl ?_
      refine zT.if_ne (tgt := 112) dX1_mean_101 (by decide) (by first | assumption | exact zq_i _ | exact zand_i _ _ | exact zor_i _ _ | exact zxor_i _ _ | exact zN _ | omega) (fun c101 => ?_) (fun c101 => ?_)
      · refine zT.lload 9 dX1_mean_112 rfl ?_
        refine zT.lload 11 dX1_mean_114 rfl ?_
        refine zT.ldiv dX1_mean_116 (by first | assumption | exact zq_i _ | exact zand_i _ _ | exact zor_i _ _ | exact zxor_i _ _ | exact zN _ | omega) (by first | assumption | exact zq_i _ | exact zand_i _ _ | exact zor_i _ _ | exact zxor_i _ _ | exact zN _ | omega) (by first | assumption | exact zq_i _ | exact zand_i _ _ | exact zor_i _ _ | exact zxor_i _ _ | exact zN _ | omega) (by first | assumption | exact zq_i _ | exact zand_i _ _ | exact zor_i _ _ | exact zxor_i _ _ | exact zN _ | omega) ?_
        refine zT.lret dX1_mean_117 rfl ?_
        refine ⟨?_, rfl, rfl⟩
        unfold fMean
        first
          | (rw [if_pos (by omega)]; done)
          | (rw [if_neg (by omega)]; done)
      · refine zT.lload 7 dX1_mean_104 rfl ?_
        refine zT.lload 11 dX1_mean_106 rfl ?_
        refine zT.ldiv dX1_mean_108 (by first | assumption | exact zq_i _ | exact zand_i _ _ | exact zor_i _ _ | exact zxor_i _ _ | exact zN _ | omega) (by first | assumption | exact zq_i _ | exact zand_i _ _ | exact zor_i _ _ | exact zxor_i _ _ | exact zN _ | omega) (by first | assumption | exact zq_i _ | exact zand_i _ _ | exact zor_i _ _ | exact zxor_i _ _ | exact zN _ | omega) (by first | assumption | exact zq_i _ | exact zand_i _ _ | exact zor_i _ _ | exact zxor_i _ _ | exact zN _ | omega) ?_
        refine zT.goto (tgt := 117) dX1_mean_109 (by decide) ?_
        refine zT.lret dX1_mean_117 rfl ?_
        refine ⟨?_, rfl, rfl⟩
        unfold fMean
        first
          | (rw [if_pos (by omega)]; done)
          | (rw [if_neg (by omega)]; done)

theorem C_X1_mean_x {G : zG}  {S : zS} {m : zMm} {x : Int} {A : zMm} (hR : rel S m x A) {s c : Int} (hs : zi s) (hc : zi c) (hP : ¬ ((0 ≤ s ∧ s < (aK (A 0 1023) (A 2)) 5) ∧ 0 ≤ c ∧ c ≤ 1)) : zC G mX1_mean 9 1 6 [zR x, zI s, zI c] S m (fun _ _ _ => False) (fun E q S2 m2 => E = "java/util/NoSuchElementException" ∧ zGr S S2 ∧ m2 = m) := by
  have hk := hR.vki.1
  have hKi := (hR.ki.2.1).ki hk
  have hKn := hKi.nu
  have hkr := hR.ki.2.1
  have hkf := hkr.2.1
  have hk0 := hk.1
  refine zC.of [zR x, zI s, zI c, zU, zU, zU, zU, zU, zU, zU, zU, zU, zU] (by decide) rfl (zEn1 (zcR _) (zEn1 (zcI _) (zEn1 (zcI _) (zEn0 (by simp))))) rfl ?_
  refine zT.aload_n 0 dX1_mean_0 rfl rfl ?_
  refine zT.iload_n 1 dX1_mean_1 rfl rfl ?_
  refine zT.callV (M' := mX1_isSlice) (b := x) [zI s] [] dX1_mean_2 kX1_235 rfl rfl (ci := 0) (r := (RX1, TX1, 42)) rfl (zPan.k hR.sh) (C_X1_isSlice hR (by first | assumption | exact zq_i _ | exact zand_i _ _ | exact zor_i _ _ | exact zxor_i _ _ | exact zN _ | omega)) (by decide) (k' := 1) (n' := 6) (by omega) (by omega) (by decide) (zdk (v := some (zI (zq (0 ≤ s ∧ s < (aK (A 0 1023) (A 2)) 5)))) ?_) (fun _ _ _ _ h => h.elim)
  show zT G _ _ _ _ [zI (zq (0 ≤ s ∧ s < (aK (A 0 1023) (A 2)) 5))] _ _ _ _ _ _
  refine zT.if_eqB (tgt := 21) dX1_mean_5 (by decide) (fun c5 => ?_) (fun c5 => ?_)
  · refine zT.iconst dX1_mean_21 ?_
    refine zT.callS (M' := mX1_must) [zI 0] [] dX1_mean_22 kX1_239 rfl rfl (C_X1_must_x rfl) (by decide) (k' := 0) (n' := 0) (by omega) (by omega) (by decide) (fun _ _ _ h => h.elim) (fun E22 q22 S22x m22x h22x => ?_)
    obtain ⟨rfl, g22, rfl⟩ := h22x
    refine zTX.out rfl ?_
    exact ⟨rfl, g22, rfl⟩
  · refine zT.iload_n 2 dX1_mean_8 rfl rfl ?_
    refine zT.iconst dX1_mean_9 ?_
    refine zT.iconst dX1_mean_10 ?_
    refine zT.callS (M' := mX1_isIn) [zI c, zI 0, zI 1] [] dX1_mean_11 kX1_231 rfl rfl (C_X1_isIn (by first | assumption | exact zq_i _ | exact zand_i _ _ | exact zor_i _ _ | exact zxor_i _ _ | exact zN _ | omega) (by first | assumption | exact zq_i _ | exact zand_i _ _ | exact zor_i _ _ | exact zxor_i _ _ | exact zN _ | omega) (by first | assumption | exact zq_i _ | exact zand_i _ _ | exact zor_i _ _ | exact zxor_i _ _ | exact zN _ | omega)) (by decide) (k' := 1) (n' := 6) (by omega) (by omega) (by decide) (zdk (v := some (zI (zq (0 ≤ c ∧ c ≤ 1)))) ?_) (fun _ _ _ _ h => h.elim)
    show zT G _ _ _ _ [zI (zq (0 ≤ c ∧ c ≤ 1))] _ _ _ _ _ _
    refine zT.if_eqB (tgt := 21) dX1_mean_14 (by decide) (fun c14 => ?_) (fun c14 => ?_)
    · refine zT.iconst dX1_mean_21 ?_
      refine zT.callS (M' := mX1_must) [zI 0] [] dX1_mean_22 kX1_239 rfl rfl (C_X1_must_x rfl) (by decide) (k' := 0) (n' := 0) (by omega) (by omega) (by decide) (fun _ _ _ h => h.elim) (fun E22 q22 S22x m22x h22x => ?_)
      obtain ⟨rfl, g22, rfl⟩ := h22x
      refine zTX.out rfl ?_
      exact ⟨rfl, g22, rfl⟩
    · refine zT.iconst dX1_mean_17 ?_
      refine zT.goto (tgt := 22) dX1_mean_18 (by decide) ?_
      exfalso; omega

