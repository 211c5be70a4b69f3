/-! toasts, cook, best (written by gen/m_cook3.py) -/
theorem zs_zc (n : Nat) : zs (fun _ => (0 : Int)) (n : Int) = 0 := by
  induction n with
  | zero => rfl
  | succ n ih => rw [show ((n + 1 : Nat) : Int) = (n : Int) + 1 by omega, zs_s (by omega), ih]; rfl
theorem C_X1_toasts {G : zG}  {S : zS} {m : zMm} {x : Int} {A : zMm} (hR : rel S m x A) {r : Int} {K : Int → Int} (hK : ∀ j, 0 ≤ j → j < 58 → K j = aK (A 0 1023) (A 2) j) (hk : zKV K) (hr : 0 ≤ r ∧ r ≤ 2) (hB : A 0 1023 = 1) : zC G mX1_toasts 4 0 0 [zR x, zI r] S m (fun v S' m' => v = some (zI (cRn K r 700 0 (uNil A, fL0 K, (fun _ => 0), (fun _ => -1), (fun _ => 0))).2) ∧ S' = S ∧ rel S m' x (cRn K r 700 0 (uNil A, fL0 K, (fun _ => 0), (fun _ => -1), (fun _ => 0))).1 ∧ zOut x m m' ∧ aPl A (cRn K r 700 0 (uNil A, fL0 K, (fun _ => 0), (fun _ => -1), (fun _ => 0))).1 ∧ gSl (K 5) ((cRn K r 700 0 (uNil A, fL0 K, (fun _ => 0), (fun _ => -1), (fun _ => 0))).1 2 58) (aGo ((cRn K r 700 0 (uNil A, fL0 K, (fun _ => 0), (fun _ => -1), (fun _ => 0))).1 2) 58) ∧ (∀ a, x + 20 ≤ a → a < x + 26 → ∀ j, m' a j = m a j) ∧ 0 ≤ (cRn K r 700 0 (uNil A, fL0 K, (fun _ => 0), (fun _ => -1), (fun _ => 0))).2 ∧ (cRn K r 700 0 (uNil A, fL0 K, (fun _ => 0), (fun _ => -1), (fun _ => 0))).2 ≤ 392) zNX := by
  have hkr := (hR.ki.2.1).kc hK
  have hkf := hkr.2.1
  have hk0 := hk.1
  refine zC.of [zR x, zI r, zU, zU, zU, zU] (by decide) rfl (zEn1 (zcR _) (zEn1 (zcI _) (zEn0 (by simp)))) rfl ?_
  refine zT.aload_n 0 dX1_toasts_0 rfl rfl ?_
  refine zT.getF dX1_toasts_1 fX1_73 rfl (zPan.k hR.sh) (j := 8) (by decide) rfl (zPan.f8 hR.sh) ?_
  refine zT.iconst dX1_toasts_4 ?_
  refine zT.putI dX1_toasts_5 fX1_213 zs_305 rfl (zPlan.k (zPan.o8 hR.sh)) (j := 5) (by decide) rfl (by first | assumption | exact zq_i _ | exact zand_i _ _ | exact zor_i _ _ | exact zxor_i _ _ | exact zN _ | omega) ?_
  obtain ⟨m1, em1⟩ : ∃ z, z = zup m (x + 14) 305 0 := ⟨_, rfl⟩
  rw [← em1]
  have hQ1 : rel S m1 x (uNil A) := by rw [em1]; exact hR.nil hB
  have ho1 : zOut x m m1 := by rw [em1]; exact zOut.rf.up (by omega)
  have hf1 : ∀ a, x + 20 ≤ a → a < x + 26 → ∀ j, m1 a j = m a j := fun a a0 a1 j => by rw [em1, zup_ne (by omega)]
  have hkr1 : zKR S m1 (m1 x 7) K := (hQ1.ki.2.1).kc (fun j a b => (hK j a b).trans (aPl.rf.nil.K rfl j a b))
  refine zT.aload_n 0 dX1_toasts_8 rfl rfl ?_
  refine zT.getR dX1_toasts_9 fX1_66 rfl (zPan.k hR.sh) (j := 7) (by decide) rfl ?_
  have r9 : m1 x 7 = m x 7 := by rw [em1, zup_ne (by omega)]
  rw [r9]
  refine zT.getF dX1_toasts_12 fX1_243 rfl (zKit.k hR.ki.2.1.1) (j := 2) (by decide) rfl (zKit.f202 hR.ki.2.1.1) ?_
  refine zT.iconst dX1_toasts_15 ?_
  refine zT.aload_n 0 dX1_toasts_16 rfl rfl ?_
  refine zT.getF dX1_toasts_17 fX1_138 rfl (zPan.k hR.sh) (j := 25) (by decide) rfl (zPan.f25 hR.sh) ?_
  refine zT.iconst dX1_toasts_20 ?_
  refine zT.aload_n 0 dX1_toasts_21 rfl rfl ?_
  refine zT.getF dX1_toasts_22 fX1_138 rfl (zPan.k hR.sh) (j := 25) (by decide) rfl (zPan.f25 hR.sh) ?_
  refine zT.alen dX1_toasts_25 (by rw [(zPan.a25 hR.sh)]; decide) ?_
  rw [(zPan.n25 hR.sh)]
  refine zT.acopy dX1_toasts_26 q862 (zKit.a202 hR.ki.2.1.1) (zPan.a25 hR.sh) (Or.inl rfl) (by first | assumption | exact zq_i _ | exact zand_i _ _ | exact zor_i _ _ | exact zxor_i _ _ | exact zN _ | omega) (by first | assumption | exact zq_i _ | exact zand_i _ _ | exact zor_i _ _ | exact zxor_i _ _ | exact zN _ | omega) (by first | assumption | exact zq_i _ | exact zand_i _ _ | exact zor_i _ _ | exact zxor_i _ _ | exact zN _ | omega) (by rw [(zKit.n202 hR.ki.2.1.1)]; first | assumption | exact zq_i _ | exact zand_i _ _ | exact zor_i _ _ | exact zxor_i _ _ | exact zN _ | omega) (by rw [(zPan.n25 hR.sh)]; first | assumption | exact zq_i _ | exact zand_i _ _ | exact zor_i _ _ | exact zxor_i _ _ | exact zN _ | omega) (by decide) (by decide) ?_
  obtain ⟨m2, em2⟩ : ∃ z, z = zfl m1 (x + 39) 0 (0 + 16) (fun j => m1 ((m x 7) + 3) (0 + (j - 0))) := ⟨_, rfl⟩
  rw [← em2]
  have hQ2 : rel S m2 x (uNil A) := by rw [em2]; exact hQ1.fl39
  have ho2 : zOut x m m2 := by rw [em2]; exact fun a a0 a1 j => by rw [zfl_ne (by omega)]; exact ho1 a a0 a1 j
  have hf2 : ∀ a, x + 20 ≤ a → a < x + 26 → ∀ j, m2 a j = m a j := fun a a0 a1 j => by rw [em2, zfl_ne (by omega)]; exact hf1 a a0 a1 j
  have hL2 : ∀ j, 0 ≤ j → j < 16 → m2 (x + 39) j = fL0 K j := fun j a b => by
      rw [em2, zfl_at (by omega) (by omega)]
      show m1 _ (0 + (j - 0)) = _
      rw [show 0 + (j - 0) = j by omega]
      first | exact hkr1.min a b | (rw [show m x 7 = m1 x 7 by rw [em1, zup_ne (by omega)]]; exact hkr1.min a b)
  refine zT.iconst dX1_toasts_29 ?_
  refine zT.istore_n 2 dX1_toasts_30 rfl (by decide) (zpre1 rfl (zcI _)) ?_
  show zT G _ _ _ [zR x, zI r, zI 0, zU, zU, zU] _ _ _ _ _ _ _
  have L31 : ∀ (N : Nat) (mA : zMm) (i : Int), (rel S mA x (uNil A)) → (zOut x m mA) → (∀ a, x + 20 ≤ a → a < x + 26 → ∀ j, mA a j = m a j) → (0 ≤ i) → (i ≤ 16) → (∀ j, 0 ≤ j → j < 16 → mA (x + 39) j = fL0 K j) → (∀ j, 0 ≤ j → j < i → mA (x + 40) j = 0) → ((16 - i).toNat) < N → zT G mX1_toasts 4 31 [zR x, zI r, zI i, zU, zU, zU] [] S mA 0 0 (fun v S' m' => v = some (zI (cRn K r 700 0 (uNil A, fL0 K, (fun _ => 0), (fun _ => -1), (fun _ => 0))).2) ∧ S' = S ∧ rel S m' x (cRn K r 700 0 (uNil A, fL0 K, (fun _ => 0), (fun _ => -1), (fun _ => 0))).1 ∧ zOut x m m' ∧ aPl A (cRn K r 700 0 (uNil A, fL0 K, (fun _ => 0), (fun _ => -1), (fun _ => 0))).1 ∧ gSl (K 5) ((cRn K r 700 0 (uNil A, fL0 K, (fun _ => 0), (fun _ => -1), (fun _ => 0))).1 2 58) (aGo ((cRn K r 700 0 (uNil A, fL0 K, (fun _ => 0), (fun _ => -1), (fun _ => 0))).1 2) 58) ∧ (∀ a, x + 20 ≤ a → a < x + 26 → ∀ j, m' a j = m a j) ∧ 0 ≤ (cRn K r 700 0 (uNil A, fL0 K, (fun _ => 0), (fun _ => -1), (fun _ => 0))).2 ∧ (cRn K r 700 0 (uNil A, fL0 K, (fun _ => 0), (fun _ => -1), (fun _ => 0))).2 ≤ 392) zNX := by
    intro N
    induction N with
    | zero => intro mA i hQ hoA hfr i0 i1 hLm hOm hN; exact absurd hN (Nat.not_lt_zero _)
    | succ N ih31 =>
      intro mA i hQ hoA hfr i0 i1 hLm hOm hN
      refine zT.iload_n 2 dX1_toasts_31 rfl rfl ?_
      refine zT.aload_n 0 dX1_toasts_32 rfl rfl ?_
      refine zT.getF dX1_toasts_33 fX1_141 rfl (zPan.k hQ.sh) (j := 26) (by decide) rfl (zPan.f26 hQ.sh) ?_
      refine zT.alen dX1_toasts_36 (by rw [(zPan.a26 hQ.sh)]; decide) ?_
      rw [(zPan.n26 hQ.sh)]
      refine zT.ic_ge (tgt := 53) dX1_toasts_37 (by decide) (by first | assumption | exact zq_i _ | exact zand_i _ _ | exact zor_i _ _ | exact zxor_i _ _ | exact zN _ | omega) (by first | assumption | exact zq_i _ | exact zand_i _ _ | exact zor_i _ _ | exact zxor_i _ _ | exact zN _ | omega) (fun c37 => ?_) (fun c37 => ?_)
      · refine zT.iconst dX1_toasts_53 ?_
        refine zT.istore_n 2 dX1_toasts_54 rfl (by decide) (zpre1 rfl (zcI _)) ?_
        show zT G _ _ _ [zR x, zI r, zI 0, zU, zU, zU] _ _ _ _ _ _ _
        have L55 : ∀ (N : Nat) (mA : zMm) (i : Int), (rel S mA x (uNil A)) → (zOut x m mA) → (∀ a, x + 20 ≤ a → a < x + 26 → ∀ j, mA a j = m a j) → (0 ≤ i) → (i ≤ 4) → (∀ j, 0 ≤ j → j < 16 → mA (x + 39) j = fL0 K j) → (∀ j, 0 ≤ j → j < 16 → mA (x + 40) j = 0) → (∀ j, 0 ≤ j → j < i → mA (x + 42) j = -1) → ((4 - i).toNat) < N → zT G mX1_toasts 4 55 [zR x, zI r, zI i, zU, zU, zU] [] S mA 0 0 (fun v S' m' => v = some (zI (cRn K r 700 0 (uNil A, fL0 K, (fun _ => 0), (fun _ => -1), (fun _ => 0))).2) ∧ S' = S ∧ rel S m' x (cRn K r 700 0 (uNil A, fL0 K, (fun _ => 0), (fun _ => -1), (fun _ => 0))).1 ∧ zOut x m m' ∧ aPl A (cRn K r 700 0 (uNil A, fL0 K, (fun _ => 0), (fun _ => -1), (fun _ => 0))).1 ∧ gSl (K 5) ((cRn K r 700 0 (uNil A, fL0 K, (fun _ => 0), (fun _ => -1), (fun _ => 0))).1 2 58) (aGo ((cRn K r 700 0 (uNil A, fL0 K, (fun _ => 0), (fun _ => -1), (fun _ => 0))).1 2) 58) ∧ (∀ a, x + 20 ≤ a → a < x + 26 → ∀ j, m' a j = m a j) ∧ 0 ≤ (cRn K r 700 0 (uNil A, fL0 K, (fun _ => 0), (fun _ => -1), (fun _ => 0))).2 ∧ (cRn K r 700 0 (uNil A, fL0 K, (fun _ => 0), (fun _ => -1), (fun _ => 0))).2 ≤ 392) zNX := by
          intro N
          induction N with
          | zero => intro mA i hQ hoA hfr i0 i1 hLm hOm hWm hN; exact absurd hN (Nat.not_lt_zero _)
          | succ N ih55 =>
            intro mA i hQ hoA hfr i0 i1 hLm hOm hWm hN
            refine zT.iload_n 2 dX1_toasts_55 rfl rfl ?_
            refine zT.iconst dX1_toasts_56 ?_
            refine zT.ic_ge (tgt := 73) dX1_toasts_57 (by decide) (by first | assumption | exact zq_i _ | exact zand_i _ _ | exact zor_i _ _ | exact zxor_i _ _ | exact zN _ | omega) (by first | assumption | exact zq_i _ | exact zand_i _ _ | exact zor_i _ _ | exact zxor_i _ _ | exact zN _ | omega) (fun c57 => ?_) (fun c57 => ?_)
            · have hkr3 : zKR S mA (mA x 7) K := (hQ.ki.2.1).kc (fun j a b => (hK j a b).trans (aPl.rf.nil.K rfl j a b))
              have hKi := hkr3.ki hk
              obtain ⟨RR, hRR⟩ : ∃ z, z = (cRn K r 700 0 (uNil A, fL0 K, (fun _ => 0), (fun _ => -1), (fun _ => 0))) := ⟨_, rfl⟩
              have hRR := hRR.symm
              refine zT.aload_n 0 dX1_toasts_73 rfl rfl ?_
              refine zT.getR dX1_toasts_74 fX1_66 rfl (zPan.k hQ.sh) (j := 7) (by decide) rfl ?_
              refine zT.callV (M' := mX3_all) (b := (mA x 7)) [] [] dX1_toasts_77 kX1_361 rfl rfl (ci := 2) (r := (RX3, TX3, 16)) rfl (zKit.k hQ.ki.2.1.1) (C_X3_all hQ.ki.2.1.1 hKi) (by decide) (k' := 0) (n' := 0) (by omega) (by omega) (by decide) (zdk (v := some (zI (zall mA (mA x 7) (mA (mA x 7) 208)))) ?_) (fun _ _ _ _ h => h.elim)
              show zT G _ _ _ _ [zI (zall mA (mA x 7) (mA (mA x 7) 208))] _ _ _ _ _ _
              have hza9 : zall mA (mA x 7) (mA (mA x 7) 208) = fAll K (K 5) := by rw [zall_a hkr3 (by rw [hkr3.2.1.2.2.2.2.2.1]; omega), hkr3.2.1.2.2.2.2.2.1]
              rw [hza9]
              show zT G _ _ _ _ [zI (fAll K (K 5))] _ _ _ _ _ _
              refine zT.istore_n 2 dX1_toasts_80 rfl (by decide) (zpre1 rfl (zcI _)) ?_
              show zT G _ _ _ [zR x, zI r, zI (fAll K (K 5)), zU, zU, zU] _ _ _ _ _ _ _
              refine zT.iconst dX1_toasts_81 ?_
              refine zT.istore_n 3 dX1_toasts_82 rfl (by decide) (zpre1 rfl (zcI _)) ?_
              show zT G _ _ _ [zR x, zI r, zI (fAll K (K 5)), zI 0, zU, zU] _ _ _ _ _ _ _
              have L83 : ∀ (N : Nat) (mA : zMm) (t : kSt) (l : Int) (tm : Int) (f : Nat), (rel S mA x t.1) → (zOut x m mA) → (∀ a, x + 20 ≤ a → a < x + 26 → ∀ j, mA a j = m a j) → (aPl A t.1) → (∀ j, 0 ≤ j → j < 16 → mA (x + 39) j = t.2.1 j) → (∀ j, 0 ≤ j → j < 16 → 0 ≤ t.2.1 j ∧ t.2.1 j ≤ 20) → (∀ j, 0 ≤ j → j < 16 → mA (x + 40) j = t.2.2.1 j) → (∀ j, 0 ≤ j → j < 16 → 0 ≤ t.2.2.1 j ∧ t.2.2.1 j ≤ 1000) → (∀ j, 0 ≤ j → j < (K 0) → mA (x + 42) j = t.2.2.2.1 j) → (∀ j, 0 ≤ j → j < (K 0) → t.2.2.2.1 j ≠ -1 → mA (x + 43) j = t.2.2.2.2 j) → (cI K t.2.1 t.2.2.1 t.2.2.2.1 392 tm) → (∀ Y, cPv K Y t.2.2.2.1 tm 0 t) → (l = zs t.2.1 (2 * (K 5))) → (0 ≤ tm) → (tm + f = 700) → (cRn K r f tm t = RR) → f < N → zT G mX1_toasts 4 83 [zR x, zI r, zI l, zI tm, zU, zU] [] S mA 0 0 (fun v S' m' => v = some (zI (cRn K r 700 0 (uNil A, fL0 K, (fun _ => 0), (fun _ => -1), (fun _ => 0))).2) ∧ S' = S ∧ rel S m' x (cRn K r 700 0 (uNil A, fL0 K, (fun _ => 0), (fun _ => -1), (fun _ => 0))).1 ∧ zOut x m m' ∧ aPl A (cRn K r 700 0 (uNil A, fL0 K, (fun _ => 0), (fun _ => -1), (fun _ => 0))).1 ∧ gSl (K 5) ((cRn K r 700 0 (uNil A, fL0 K, (fun _ => 0), (fun _ => -1), (fun _ => 0))).1 2 58) (aGo ((cRn K r 700 0 (uNil A, fL0 K, (fun _ => 0), (fun _ => -1), (fun _ => 0))).1 2) 58) ∧ (∀ a, x + 20 ≤ a → a < x + 26 → ∀ j, m' a j = m a j) ∧ 0 ≤ (cRn K r 700 0 (uNil A, fL0 K, (fun _ => 0), (fun _ => -1), (fun _ => 0))).2 ∧ (cRn K r 700 0 (uNil A, fL0 K, (fun _ => 0), (fun _ => -1), (fun _ => 0))).2 ≤ 392) zNX := by
                intro N
                induction N with
                | zero => intro mA t l tm f hQ hoA hfr hP hLm hLb hOm hOb hWm hGm hcI hcP hl tm0 hff hT hN; exact absurd hN (Nat.not_lt_zero _)
                | succ N ih83 =>
                  intro mA t l tm f hQ hoA hfr hP hLm hLb hOm hOb hWm hGm hcI hcP hl tm0 hff hT hN
                  have hcb := hcI.2.2.2.2.2.2
                  have hzL : 0 ≤ zs t.2.1 (2 * (K 5)) := (zs_b (B := 20) (by omega) (fun j a b => hLb j a (by omega))).1
                  have hzP : 0 ≤ zs (cPh K t.2.1 t.2.2.1 tm) (K 5) := (zs_b (B := 2000) (by omega) (fun s a b => by
                    unfold cPh
                    have o1 := hOb (2 * s) (by omega) (by omega)
                    have o2 := hOb (2 * s + 1) (by omega) (by omega)
                    repeat' split
                    all_goals omega)).1
                  refine zT.iload_n 2 dX1_toasts_83 rfl rfl ?_
                  refine zT.if_le (tgt := 233) dX1_toasts_84 (by decide) (by first | assumption | exact zq_i _ | exact zand_i _ _ | exact zor_i _ _ | exact zxor_i _ _ | exact zN _ | omega) (fun c84 => ?_) (fun c84 => ?_)
                  · refine zT.iload_n 3 dX1_toasts_233 rfl rfl ?_
                    refine zT.iret dX1_toasts_234 rfl ?_
                    have hz0 := zs_zero (L := t.2.1) (2 * (K 5)).toNat (fun j a b => (hLb j a (by omega)).1) (by rw [show (((2 * (K 5)).toNat : Nat) : Int) = 2 * (K 5) by omega]; omega)
                    have hT2 := cRn_0 (K := K) (r := r) (m := tm) (f := f) (t := t) (fun j a b => hz0 j a (by omega))
                    rw [hRR, ← hT, hT2]
                    exact ⟨rfl, rfl, hQ, hoA, hP, (hcP (fun _ => 0)).2.1, hfr, tm0, by show tm ≤ 392; omega⟩
                  · obtain ⟨f, rfl⟩ : ∃ z, f = z + 1 := ⟨f - 1, by omega⟩
                    have hne : ¬ ∀ j, 0 ≤ j → j < 2 * (K 5) → t.2.1 j = 0 := fun z => by
                                          have q := zs_mono (f := t.2.1) (g := fun _ => 0) (2 * (K 5)).toNat (fun j a b => by rw [z j a (by omega)]; exact Int.le_refl _)
                                          have e := zs_zc (2 * (K 5)).toNat
                                          rw [e, show (((2 * (K 5)).toNat : Nat) : Int) = 2 * (K 5) by omega] at q
                                          omega
                    obtain ⟨Y, hY9⟩ : ∃ z, z = cNw K r tm t := ⟨_, rfl⟩
                    have hv : cNv K t.2.1 t.2.2.1 Y tm := by rw [hY9]; exact cFl_v hk (fun j a b => (hcI.1 j a b).1) hcI.2.2.1 _ _ (cN0_v hcI)
                    have hkr4 : zKR S mA (mA x 7) K := (hQ.ki.2.1).kc (fun j a b => (hK j a b).trans (hP.K rfl j a b))
                    have hckf : mA (x + 35) r = x + 36 + r := by
                                          have q := hQ.cs.2.2.2
                                          rcases (by omega : r = 0 ∨ r = 1 ∨ r = 2) with e | e | e <;> rw [e]
                                          · rw [q.1]; omega
                                          · rw [q.2.1]; omega
                                          · rw [q.2.2]; omega
                    have hck : zk S (x + 36 + r) = (7 + r).toNat := by
                                          rcases (by omega : r = 0 ∨ r = 1 ∨ r = 2) with e | e | e <;> rw [e]
                                          · exact (show zk S (x + 36 + 0) = 7 by rw [Int.add_zero]; exact hQ.sh.k36)
                                          · exact (show zk S (x + 36 + 1) = 8 by rw [show x + 36 + 1 = x + 37 by omega]; exact hQ.sh.k37)
                                          · exact (show zk S (x + 36 + 2) = 9 by rw [show x + 36 + 2 = x + 38 by omega]; exact hQ.sh.k38)
                    have hWb : ∀ j, 0 ≤ j → j < (K 0) → -1 ≤ t.2.2.2.1 j ∧ t.2.2.2.1 j < 16 := fun j a b => by have q := hcI.2.2.2.2.1 j a b; omega
                    refine zT.aload_n 0 dX1_toasts_87 rfl rfl ?_
                    refine zT.aload_n 0 dX1_toasts_88 rfl rfl ?_
                    refine zT.getF dX1_toasts_89 fX1_134 rfl (zPan.k hQ.sh) (j := 24) (by decide) rfl (zPan.f24 hQ.sh) ?_
                    refine zT.iload_n 1 dX1_toasts_92 rfl rfl ?_
                    refine zT.aald dX1_toasts_93 (by rw [(zPan.a24 hQ.sh)]; decide) (by first | assumption | exact zq_i _ | exact zand_i _ _ | exact zor_i _ _ | exact zxor_i _ _ | exact zN _ | omega) (by rw [(zPan.n24 hQ.sh)]; first | assumption | exact zq_i _ | exact zand_i _ _ | exact zor_i _ _ | exact zxor_i _ _ | exact zN _ | omega) ?_
                    rw [hckf]
                    show zT G _ _ _ _ [zR (x + 36 + r), zR x] _ _ _ _ _ _
                    refine zT.iload_n 3 dX1_toasts_94 rfl rfl ?_
                    refine zT.callV (M' := mX1_minute) (b := x) [zR (x + 36 + r), zI tm] [] dX1_toasts_95 kX1_412 rfl rfl (ci := 0) (r := (RX1, TX1, 42)) rfl (zPan.k hQ.sh) (C_X1_minute hQ.sh rfl hkr4 hk hLm hLb hOm (fun j a b => by have := hOb j a b; omega) hWm (by omega) hck (by omega) hQ.ki.1 hWb (fun a c a0 a1 c0 c1 e ne => hcI.2.2.2.2.2.1 a c a0 a1 c0 c1 ne (by rw [← e]; exact ne) (by rw [e]))) (by decide) (k' := 0) (n' := 0) (by omega) (by omega) (by decide) (fun v95 S95_ m95_ h95 => ?_) (fun _ _ _ _ h => h.elim)
                    obtain ⟨rfl, eS95, hf95, hN95⟩ := h95
                    have eS95 := eS95.symm
                    subst eS95
                    rw [show cFl K t.2.1 t.2.2.1 t.2.2.2.1 r tm ((K 0)).toNat (cN0 K t.2.1 t.2.2.2.1) = Y from hY9.symm] at hN95
                    obtain ⟨m9, em9⟩ : ∃ z, z = m95_ := ⟨_, rfl⟩
                    rw [← em9] at hf95 hN95 ⊢
                    show zT G _ _ _ _ [] _ _ _ _ _ _
                    have hQ9 : rel S m9 x t.1 := hQ.set_no zGr.rf (fun k j _ _ hi _ => hf95 _ j (fun q => by unfold rIn at hi; omega)) (fun a a0 _ j => hf95 a j (by omega)) (fun _ _ _ => rfl) trivial
                    have ho9 : zOut x m m9 := fun a a0 a1 j => by rw [hf95 a j (by omega)]; exact hoA a a0 a1 j
                    have hfr9 : ∀ a, x + 20 ≤ a → a < x + 26 → ∀ j, m9 a j = m a j := fun a a0 a1 j => by rw [hf95 a j (by omega)]; exact hfr a a0 a1 j
                    refine zT.iconst dX1_toasts_98 ?_
                    refine zT.istore 4 dX1_toasts_99 (by decide) (zpre1 rfl (zcI _)) ?_
                    show zT G _ _ _ [zR x, zI r, zI l, zI tm, zI 0, zU] _ _ _ _ _ _ _
                    have L101 : ∀ (N : Nat) (mB : zMm) (u : kSt) (l2 : Int) (p : Int), (rel S mB x u.1) → (zOut x m mB) → (∀ a, x + 20 ≤ a → a < x + 26 → ∀ j, mB a j = m a j) → (aPl A u.1) → (∀ j, 0 ≤ j → j < 16 → mB (x + 39) j = u.2.1 j) → (∀ j, 0 ≤ j → j < 16 → 0 ≤ u.2.1 j ∧ u.2.1 j ≤ 20) → (∀ j, 0 ≤ j → j < 16 → mB (x + 40) j = u.2.2.1 j) → (∀ j, 0 ≤ j → j < 16 → 0 ≤ u.2.2.1 j ∧ u.2.2.1 j ≤ 1000) → (∀ j, 0 ≤ j → j < (K 0) → mB (x + 42) j = u.2.2.2.1 j) → (∀ j, 0 ≤ j → j < (K 0) → mB (x + 41) j = Y j) → (∀ j, 0 ≤ j → j < (K 0) → cAc Y t.2.2.2.1 p j → mB (x + 43) j = u.2.2.2.2 j) → (cPv K Y t.2.2.2.1 tm p u) → (l2 = zs u.2.1 (2 * (K 5))) → (0 ≤ p) → (p ≤ (K 0)) → (u = cTl tm Y p.toNat t) → (((K 0) - p).toNat) < N → zT G mX1_toasts 4 101 [zR x, zI r, zI l2, zI tm, zI p, zU] [] S mB 0 0 (fun v S' m' => v = some (zI (cRn K r 700 0 (uNil A, fL0 K, (fun _ => 0), (fun _ => -1), (fun _ => 0))).2) ∧ S' = S ∧ rel S m' x (cRn K r 700 0 (uNil A, fL0 K, (fun _ => 0), (fun _ => -1), (fun _ => 0))).1 ∧ zOut x m m' ∧ aPl A (cRn K r 700 0 (uNil A, fL0 K, (fun _ => 0), (fun _ => -1), (fun _ => 0))).1 ∧ gSl (K 5) ((cRn K r 700 0 (uNil A, fL0 K, (fun _ => 0), (fun _ => -1), (fun _ => 0))).1 2 58) (aGo ((cRn K r 700 0 (uNil A, fL0 K, (fun _ => 0), (fun _ => -1), (fun _ => 0))).1 2) 58) ∧ (∀ a, x + 20 ≤ a → a < x + 26 → ∀ j, m' a j = m a j) ∧ 0 ≤ (cRn K r 700 0 (uNil A, fL0 K, (fun _ => 0), (fun _ => -1), (fun _ => 0))).2 ∧ (cRn K r 700 0 (uNil A, fL0 K, (fun _ => 0), (fun _ => -1), (fun _ => 0))).2 ≤ 392) zNX := by
                      intro N
                      induction N with
                      | zero => intro mB u l2 p hQ hoA hfr hP hLm hLb hOm hOb hWm hNm hGm hcQ hl p0 p1 hu hN; exact absurd hN (Nat.not_lt_zero _)
                      | succ N ih101 =>
                        intro mB u l2 p hQ hoA hfr hP hLm hLb hOm hOb hWm hNm hGm hcQ hl p0 p1 hu hN
                        have hkr5 : zKR S mB (mB x 7) K := (hQ.ki.2.1).kc (fun j a b => (hK j a b).trans (hP.K rfl j a b))
                        have hk15 := hkr5.2.1.1
                        refine zT.iload 4 dX1_toasts_101 rfl ?_
                        refine zT.aload_n 0 dX1_toasts_103 rfl rfl ?_
                        refine zT.getR dX1_toasts_104 fX1_66 rfl (zPan.k hQ.sh) (j := 7) (by decide) rfl ?_
                        refine zT.getI dX1_toasts_107 fX1_332 rfl (zKit.k hQ.ki.2.1.1) (j := 11) (by decide) rfl (fun z107 => ?_)
                        refine zT.ic_ge (tgt := 227) dX1_toasts_110 (by decide) (by first | assumption | exact zq_i _ | exact zand_i _ _ | exact zor_i _ _ | exact zxor_i _ _ | exact zN _ | omega) (by first | assumption | exact zq_i _ | exact zand_i _ _ | exact zor_i _ _ | exact zxor_i _ _ | exact zN _ | omega) (fun c110 => ?_) (fun c110 => ?_)
                        · have hpe : p = (K 0) := by omega
                          rw [hpe] at hcQ hu hGm
                          have hum : u = cMn K r tm t := by rw [hu, hY9]; rfl
                          have hTl := cTl_l (m := tm) (t := t) hv.2 ((K 0)).toNat (by omega)
                          rw [show ((((K 0)).toNat : Nat) : Int) = (K 0) by omega, ← hu] at hTl
                          have hTw := cTl_w (m := tm) (N := Y) (t := t) ((K 0)).toNat
                          rw [show ((((K 0)).toNat : Nat) : Int) = (K 0) by omega, ← hu] at hTw
                          have hwN : ∀ q, 0 ≤ q → q < (K 0) → u.2.2.2.1 q = Y q := fun q a b => by rw [hTw q, if_pos ⟨a, b⟩]
                          have hcI9 := hcI.nx hk tm0 hne hY9 (fun j a => (hTl j a).1) (fun j a => (hTl j a).2) hwN
                          refine zT.iinc 3 dX1_toasts_227 rfl (by decide) (zpre1 rfl (zcI _)) ?_
                          show zT G _ _ _ [zR x, zI r, zI l2, zI (tm + 1), zI p, zU] _ _ _ _ _ _ _
                          refine zT.goto (tgt := 83) dX1_toasts_230 (by decide) ?_
                          refine zT.loc (V' := [zR x, zI r, zI l2, zI (tm + 1), zU, zU]) ?_ ⟨Or.inr rfl, Or.inr rfl, Or.inr rfl, Or.inr rfl, Or.inl rfl, Or.inr rfl, trivial⟩
                          exact ih83 _ u _ _ f (by exact hQ) (by exact hoA) (by exact hfr) (by exact hP) (by exact hLm) (by exact hLb) (by exact hOm) (by exact hOb) (by exact hWm) (by exact fun j a b q => hGm j a b (by unfold cAc; rw [if_pos b, ← hwN j a b]; exact q)) (by exact hcI9) (by exact fun N2 => hcQ.nx hwN) (by exact hl) (by omega) (by omega) (by rw [← hT, cRn_1 hne, ← hum]) (by omega)
                        · have hn9 := hNm p p0 (by omega)
                          have hnv := hv.1 p p0 (by omega)
                          have hwp : u.2.2.2.1 p = t.2.2.2.1 p := by rw [hu, cTl_w p.toNat p, if_neg (by omega)]
                          have hw9 := hWm p p0 (by omega)
                          have hwb := hWb p p0 (by omega)
                          have hpn := hQ.pl.2.1
                          refine zT.aload_n 0 dX1_toasts_113 rfl rfl ?_
                          refine zT.getF dX1_toasts_114 fX1_144 rfl (zPan.k hQ.sh) (j := 27) (by decide) rfl (zPan.f27 hQ.sh) ?_
                          refine zT.iload 4 dX1_toasts_117 rfl ?_
                          refine zT.iald dX1_toasts_119 (zPan.a27 hQ.sh) (by first | assumption | exact zq_i _ | exact zand_i _ _ | exact zor_i _ _ | exact zxor_i _ _ | exact zN _ | omega) (by rw [(zPan.n27 hQ.sh)]; first | assumption | exact zq_i _ | exact zand_i _ _ | exact zor_i _ _ | exact zxor_i _ _ | exact zN _ | omega) (fun z119 => ?_)
                          rw [hn9]
                          show zT G _ _ _ _ [zI (Y p)] _ _ _ _ _ _
                          refine zT.istore 5 dX1_toasts_120 (by decide) (zpre1 rfl (zcI _)) ?_
                          show zT G _ _ _ [zR x, zI r, zI l2, zI tm, zI p, zI (Y p)] _ _ _ _ _ _ _
                          refine zT.iload 5 dX1_toasts_122 rfl ?_
                          refine zT.iconst dX1_toasts_124 ?_
                          refine zT.ic_eq (tgt := 212) dX1_toasts_125 (by decide) (by first | assumption | exact zq_i _ | exact zand_i _ _ | exact zor_i _ _ | exact zxor_i _ _ | exact zN _ | omega) (by first | assumption | exact zq_i _ | exact zand_i _ _ | exact zor_i _ _ | exact zxor_i _ _ | exact zN _ | omega) (fun c125 => ?_) (fun c125 => ?_)
                          · refine zT.aload_n 0 dX1_toasts_212 rfl rfl ?_
                            refine zT.getF dX1_toasts_213 fX1_147 rfl (zPan.k hQ.sh) (j := 28) (by decide) rfl (zPan.f28 hQ.sh) ?_
                            refine zT.iload 4 dX1_toasts_216 rfl ?_
                            refine zT.iload 5 dX1_toasts_218 rfl ?_
                            refine zT.iast dX1_toasts_220 (zPan.a28 hQ.sh) (by first | assumption | exact zq_i _ | exact zand_i _ _ | exact zor_i _ _ | exact zxor_i _ _ | exact zN _ | omega) (by rw [(zPan.n28 hQ.sh)]; first | assumption | exact zq_i _ | exact zand_i _ _ | exact zor_i _ _ | exact zxor_i _ _ | exact zN _ | omega) (by first | assumption | exact zq_i _ | exact zand_i _ _ | exact zor_i _ _ | exact zxor_i _ _ | exact zN _ | omega) ?_
                            obtain ⟨m3, em3⟩ : ∃ z, z = zup mB (x + 42) p (Y p) := ⟨_, rfl⟩
                            rw [← em3]
                            have hn1 : Y p = -1 := by omega
                            have e1 : cT1 tm Y p u = (u.1, u.2.1, u.2.2.1, fSet u.2.2.2.1 p (Y p), u.2.2.2.2) := by
                              unfold cT1
                              rw [if_pos hn1, if_pos hn1, if_pos hn1, if_pos (Or.inl hn1)]
                            have hcQ9 := hcQ.st hk p0 (by omega) tm0 (by omega) hwp (by exact Or.inl hn1) (zs_b (B := 20) (by omega) (fun j a b => hLb j a (by omega))).1
                            rw [e1] at hcQ9
                            have hu9 : (u.1, u.2.1, u.2.2.1, fSet u.2.2.2.1 p (Y p), u.2.2.2.2) = cTl tm Y (p + 1).toNat t := by
                              rw [← e1, show (p + 1).toNat = p.toNat + 1 by omega]
                              show _ = cT1 tm Y ((p.toNat : Nat) : Int) (cTl tm Y p.toNat t)
                              rw [← hu, show ((p.toNat : Nat) : Int) = p by omega]
                            have hQ_m3 : rel S m3 x u.1 := by rw [em3]; exact hQ.upI (by omega) (by omega) (fun z => by unfold rIn at z; omega)
                            have hQz := hQ_m3
                            have hPz : aPl A u.1 := hP
                            have hoz : zOut x m m3 := fun a a0 a1 j => by rw [em3, zup_ne (by omega)]; exact hoA a a0 a1 j
                            have hfz : ∀ a, x + 20 ≤ a → a < x + 26 → ∀ j, m3 a j = m a j := fun a a0 a1 j => by rw [em3, zup_ne (by omega)]; exact hfr a a0 a1 j
                            have hLz : ∀ j, 0 ≤ j → j < 16 → m3 (x + 39) j = u.2.1 j := fun j a b => by rw [em3, zup_ne (by omega)]; exact hLm j a b
                            have hOz : ∀ j, 0 ≤ j → j < 16 → m3 (x + 40) j = u.2.2.1 j := fun j a b => by rw [em3, zup_ne (by omega)]; exact hOm j a b
                            have hWz : ∀ j, 0 ≤ j → j < (K 0) → m3 (x + 42) j = fSet u.2.2.2.1 p (Y p) j := fun j a b => by
                              rw [em3]
                              by_cases z : j = p
                              · rw [z, zup_at, fSet_at]
                              · rw [zup_ne (fun y => z y.2), fSet_ne z]; exact hWm j a b
                            have hNz : ∀ j, 0 ≤ j → j < (K 0) → m3 (x + 41) j = Y j := fun j a b => by rw [em3, zup_ne (by omega)]; exact hNm j a b
                            have acx : ∀ j, j ≠ p → cAc Y t.2.2.2.1 (p + 1) j → cAc Y t.2.2.2.1 p j := fun j hj q => by
                              unfold cAc at q ⊢
                              by_cases z : j < p
                              · rw [if_pos z]; rw [if_pos (by omega)] at q; exact q
                              · rw [if_neg z]; rw [if_neg (by omega)] at q; exact q
                            have hGz : ∀ j, 0 ≤ j → j < (K 0) → cAc Y t.2.2.2.1 (p + 1) j → m3 (x + 43) j = u.2.2.2.2 j := fun j a b q => by
                              rw [em3, zup_ne (by omega)]
                              by_cases z : j = p
                              · rw [z] at q; unfold cAc at q; rw [if_pos (by omega)] at q; exact absurd hn1 q
                              · exact hGm j a b (acx j z q)
                            have hLbz := hLb
                            have hObz := hOb
                            refine zT.iinc 4 dX1_toasts_221 rfl (by decide) (zpre1 rfl (zcI _)) ?_
                            show zT G _ _ _ [zR x, zI r, zI l2, zI tm, zI (p + 1), zI (Y p)] _ _ _ _ _ _ _
                            refine zT.goto (tgt := 101) dX1_toasts_224 (by decide) ?_
                            refine zT.loc (V' := [zR x, zI r, zI l2, zI tm, zI (p + 1), zU]) ?_ ⟨Or.inr rfl, Or.inr rfl, Or.inr rfl, Or.inr rfl, Or.inr rfl, Or.inl rfl, trivial⟩
                            exact ih101 _ (u.1, u.2.1, u.2.2.1, fSet u.2.2.2.1 p (Y p), u.2.2.2.2) _ _ (by exact hQz) (by exact hoz) (by exact hfz) (by exact hPz) (by exact hLz) (by exact hLbz) (by exact hOz) (by exact hObz) (by exact hWz) (by exact hNz) (by exact hGz) (by exact hcQ9) (by omega) (by omega) (by omega) (by exact hu9) (by omega)
                          · have hnn : Y p ≠ -1 := by omega
                            obtain ⟨nn0, nn1, nn2⟩ : 0 ≤ Y p ∧ Y p < 2 * (K 5) ∧ 0 < u.2.1 (Y p) := by
                                                          rcases hnv with z | ⟨z0, z1, z2⟩
                                                          · exact absurd z hnn
                                                          · exact ⟨z0, z1, by rw [hu, cTl_p hv p0 (by omega) rfl hnn]; exact z2.1⟩
                            have hl9 := hLm (Y p) (by omega) (by omega)
                            have hlb9 := hLb (Y p) (by omega) (by omega)
                            have hzu := zs_upd (f := u.2.1) (g := fSet u.2.1 (Y p) (u.2.1 (Y p) - 1)) (i := Y p) (d := 1) nn0 (fun j hj => fSet_ne hj) fSet_at (2 * (K 5)).toNat (by omega)
                            rw [show (((2 * (K 5)).toNat : Nat) : Int) = 2 * (K 5) by omega] at hzu
                            have hg320 := hcQ.2.2.2.2.2
                            have hgv0 := hcQ.1.1
                            have hzu0 : 0 ≤ zs u.2.1 (2 * (K 5)) := (zs_b (B := 20) (by omega) (fun j a b => hLb j a (by omega))).1
                            refine zT.iload 5 dX1_toasts_128 rfl ?_
                            refine zT.aload_n 0 dX1_toasts_130 rfl rfl ?_
                            refine zT.getF dX1_toasts_131 fX1_147 rfl (zPan.k hQ.sh) (j := 28) (by decide) rfl (zPan.f28 hQ.sh) ?_
                            refine zT.iload 4 dX1_toasts_134 rfl ?_
                            refine zT.iald dX1_toasts_136 (zPan.a28 hQ.sh) (by first | assumption | exact zq_i _ | exact zand_i _ _ | exact zor_i _ _ | exact zxor_i _ _ | exact zN _ | omega) (by rw [(zPan.n28 hQ.sh)]; first | assumption | exact zq_i _ | exact zand_i _ _ | exact zor_i _ _ | exact zxor_i _ _ | exact zN _ | omega) (fun z136 => ?_)
                            rw [hw9]
                            show zT G _ _ _ _ [zI (u.2.2.2.1 p), zI (Y p)] _ _ _ _ _ _
                            refine zT.ic_ne (tgt := 162) dX1_toasts_137 (by decide) (by first | assumption | exact zq_i _ | exact zand_i _ _ | exact zor_i _ _ | exact zxor_i _ _ | exact zN _ | omega) (by first | assumption | exact zq_i _ | exact zand_i _ _ | exact zor_i _ _ | exact zxor_i _ _ | exact zN _ | omega) (fun c137 => ?_) (fun c137 => ?_)
                            · refine zT.aload_n 0 dX1_toasts_162 rfl rfl ?_
                              refine zT.getF dX1_toasts_163 fX1_150 rfl (zPan.k hQ.sh) (j := 29) (by decide) rfl (zPan.f29 hQ.sh) ?_
                              refine zT.iload 4 dX1_toasts_166 rfl ?_
                              refine zT.aload_n 0 dX1_toasts_168 rfl rfl ?_
                              refine zT.getF dX1_toasts_169 fX1_73 rfl (zPan.k hQ.sh) (j := 8) (by decide) rfl (zPan.f8 hQ.sh) ?_
                              refine zT.iload 5 dX1_toasts_172 rfl ?_
                              refine zT.iconst dX1_toasts_174 ?_
                              refine zT.idiv dX1_toasts_175 (by first | assumption | exact zq_i _ | exact zand_i _ _ | exact zor_i _ _ | exact zxor_i _ _ | exact zN _ | omega) (by first | assumption | exact zq_i _ | exact zand_i _ _ | exact zor_i _ _ | exact zxor_i _ _ | exact zN _ | omega) (by first | assumption | exact zq_i _ | exact zand_i _ _ | exact zor_i _ _ | exact zxor_i _ _ | exact zN _ | omega) (by first | assumption | exact zq_i _ | exact zand_i _ _ | exact zor_i _ _ | exact zxor_i _ _ | exact zN _ | omega) ?_
                              refine zT.iload 5 dX1_toasts_176 rfl ?_
                              refine zT.iconst dX1_toasts_178 ?_
                              refine zT.irem dX1_toasts_179 (by first | assumption | exact zq_i _ | exact zand_i _ _ | exact zor_i _ _ | exact zxor_i _ _ | exact zN _ | omega) (by first | assumption | exact zq_i _ | exact zand_i _ _ | exact zor_i _ _ | exact zxor_i _ _ | exact zN _ | omega) (by first | assumption | exact zq_i _ | exact zand_i _ _ | exact zor_i _ _ | exact zxor_i _ _ | exact zN _ | omega) (by first | assumption | exact zq_i _ | exact zand_i _ _ | exact zor_i _ _ | exact zxor_i _ _ | exact zN _ | omega) ?_
                              refine zT.iload_n 3 dX1_toasts_180 rfl rfl ?_
                              refine zT.iload 4 dX1_toasts_181 rfl ?_
                              refine zT.iconst dX1_toasts_183 ?_
                              refine zT.callV (M' := mX4_go) (b := (x + 14)) [zI ((Y p) / 2), zI ((Y p) % 2), zI tm, zI p, zI 1] [zI p, zR (x + 43)] dX1_toasts_184 kX1_335 rfl rfl (ci := 3) (r := (RX4, TX4, 6)) rfl (zPlan.k (zPan.o8 hQ.sh)) (C_X4_go hQ.pl.1 (by omega) (by omega) (by omega) (by omega) (by omega) (by omega) (by omega)) (by decide) (k' := 0) (n' := 0) (by omega) (by omega) (by simp only [List.map, zcI, zcJ, zcR, List.sum_cons, List.sum_nil]; decide) (zdk (v := some (zI (mB (x + 14) 305))) ?_) (fun _ _ _ _ h => h.elim)
                              show zT G _ _ _ _ [zI (mB (x + 14) 305), zI p, zR (x + 43)] _ _ _ _ _ _
                              obtain ⟨m4, em4⟩ : ∃ z, z = zgo mB (x + 14) ((Y p) / 2) ((Y p) % 2) tm p 1 := ⟨_, rfl⟩
                              rw [← em4]
                              rw [hpn]
                              show zT G _ _ _ _ [zI (u.1 2 58), zI p, zR (x + 43)] _ _ _ _ _ _
                              refine zT.iast dX1_toasts_187 (zPan.a29 hQ.sh) (by first | assumption | exact zq_i _ | exact zand_i _ _ | exact zor_i _ _ | exact zxor_i _ _ | exact zN _ | omega) (by rw [(zPan.n29 hQ.sh)]; first | assumption | exact zq_i _ | exact zand_i _ _ | exact zor_i _ _ | exact zxor_i _ _ | exact zN _ | omega) (by first | assumption | exact zq_i _ | exact zand_i _ _ | exact zor_i _ _ | exact zxor_i _ _ | exact zN _ | omega) ?_
                              obtain ⟨m5, em5⟩ : ∃ z, z = zup m4 (x + 43) p (u.1 2 58) := ⟨_, rfl⟩
                              rw [← em5]
                              refine zT.aload_n 0 dX1_toasts_188 rfl rfl ?_
                              refine zT.getF dX1_toasts_189 fX1_138 rfl (zPan.k hQ.sh) (j := 25) (by decide) rfl (zPan.f25 hQ.sh) ?_
                              refine zT.iload 5 dX1_toasts_192 rfl ?_
                              refine zT.dup2 dX1_toasts_194 (zcI _) (zcR _) ?_
                              refine zT.iald dX1_toasts_195 (zPan.a25 hQ.sh) (by first | assumption | exact zq_i _ | exact zand_i _ _ | exact zor_i _ _ | exact zxor_i _ _ | exact zN _ | omega) (by rw [(zPan.n25 hQ.sh)]; first | assumption | exact zq_i _ | exact zand_i _ _ | exact zor_i _ _ | exact zxor_i _ _ | exact zN _ | omega) (fun z195 => ?_)
                              have r195 : m5 (x + 39) (Y p) = m4 (x + 39) (Y p) := by rw [em5, zup_ne (by omega)]
                              rw [r195] at z195 ⊢
                              rw [show m4 (x + 39) (Y p) = u.2.1 (Y p) by rw [em4, zgo_ne (by omega)]; exact hl9]
                              show zT G _ _ _ _ [zI (u.2.1 (Y p)), zI (Y p), zR (x + 39)] _ _ _ _ _ _
                              refine zT.iconst dX1_toasts_196 ?_
                              refine zT.isub dX1_toasts_197 ?_
                              refine zT.iast dX1_toasts_198 (zPan.a25 hQ.sh) (by first | assumption | exact zq_i _ | exact zand_i _ _ | exact zor_i _ _ | exact zxor_i _ _ | exact zN _ | omega) (by rw [(zPan.n25 hQ.sh)]; first | assumption | exact zq_i _ | exact zand_i _ _ | exact zor_i _ _ | exact zxor_i _ _ | exact zN _ | omega) (by first | assumption | exact zq_i _ | exact zand_i _ _ | exact zor_i _ _ | exact zxor_i _ _ | exact zN _ | omega) ?_
                              obtain ⟨m6, em6⟩ : ∃ z, z = zup m5 (x + 39) (Y p) ((u.2.1 (Y p)) - 1) := ⟨_, rfl⟩
                              rw [← em6]
                              refine zT.aload_n 0 dX1_toasts_199 rfl rfl ?_
                              refine zT.getF dX1_toasts_200 fX1_141 rfl (zPan.k hQ.sh) (j := 26) (by decide) rfl (zPan.f26 hQ.sh) ?_
                              refine zT.iload 5 dX1_toasts_203 rfl ?_
                              refine zT.iload_n 3 dX1_toasts_205 rfl rfl ?_
                              refine zT.iconst dX1_toasts_206 ?_
                              refine zT.iadd dX1_toasts_207 ?_
                              refine zT.iast dX1_toasts_208 (zPan.a26 hQ.sh) (by first | assumption | exact zq_i _ | exact zand_i _ _ | exact zor_i _ _ | exact zxor_i _ _ | exact zN _ | omega) (by rw [(zPan.n26 hQ.sh)]; first | assumption | exact zq_i _ | exact zand_i _ _ | exact zor_i _ _ | exact zxor_i _ _ | exact zN _ | omega) (by first | assumption | exact zq_i _ | exact zand_i _ _ | exact zor_i _ _ | exact zxor_i _ _ | exact zN _ | omega) ?_
                              obtain ⟨m7, em7⟩ : ∃ z, z = zup m6 (x + 40) (Y p) (tm + 1) := ⟨_, rfl⟩
                              rw [← em7]
                              refine zT.iinc 2 dX1_toasts_209 rfl (by decide) (zpre1 rfl (zcI _)) ?_
                              show zT G _ _ _ [zR x, zI r, zI (l2 + (-1)), zI tm, zI p, zI (Y p)] _ _ _ _ _ _ _
                              refine zT.aload_n 0 dX1_toasts_212 rfl rfl ?_
                              refine zT.getF dX1_toasts_213 fX1_147 rfl (zPan.k hQ.sh) (j := 28) (by decide) rfl (zPan.f28 hQ.sh) ?_
                              refine zT.iload 4 dX1_toasts_216 rfl ?_
                              refine zT.iload 5 dX1_toasts_218 rfl ?_
                              refine zT.iast dX1_toasts_220 (zPan.a28 hQ.sh) (by first | assumption | exact zq_i _ | exact zand_i _ _ | exact zor_i _ _ | exact zxor_i _ _ | exact zN _ | omega) (by rw [(zPan.n28 hQ.sh)]; first | assumption | exact zq_i _ | exact zand_i _ _ | exact zor_i _ _ | exact zxor_i _ _ | exact zN _ | omega) (by first | assumption | exact zq_i _ | exact zand_i _ _ | exact zor_i _ _ | exact zxor_i _ _ | exact zN _ | omega) ?_
                              obtain ⟨m8, em8⟩ : ∃ z, z = zup m7 (x + 42) p (Y p) := ⟨_, rfl⟩
                              rw [← em8]
                              have hsm : ¬ Y p = u.2.2.2.1 p := by omega
                              have e1 : cT1 tm Y p u = (uGo u.1 (Y p / 2) (Y p % 2) tm p 1, fSet u.2.1 (Y p) (u.2.1 (Y p) - 1), fSet u.2.2.1 (Y p) (tm + 1), fSet u.2.2.2.1 p (Y p), fSet u.2.2.2.2 p (u.1 2 58)) := by
                                unfold cT1
                                rw [if_neg hnn, if_neg hnn, if_neg hnn, if_neg hsm, if_neg (fun z => z.elim hnn hsm)]
                              have hcQ9 := hcQ.st hk p0 (by omega) tm0 (by omega) hwp (by exact Or.inr ⟨nn0, nn1, nn2⟩) (zs_b (B := 20) (by omega) (fun j a b => hLb j a (by omega))).1
                              rw [e1] at hcQ9
                              have hu9 : (uGo u.1 (Y p / 2) (Y p % 2) tm p 1, fSet u.2.1 (Y p) (u.2.1 (Y p) - 1), fSet u.2.2.1 (Y p) (tm + 1), fSet u.2.2.2.1 p (Y p), fSet u.2.2.2.2 p (u.1 2 58)) = cTl tm Y (p + 1).toNat t := by
                                rw [← e1, show (p + 1).toNat = p.toNat + 1 by omega]
                                show _ = cT1 tm Y ((p.toNat : Nat) : Int) (cTl tm Y p.toNat t)
                                rw [← hu, show ((p.toNat : Nat) : Int) = p by omega]
                              have hQ_m4 : rel S m4 x (uGo u.1 (Y p / 2) (Y p % 2) tm p 1) := by rw [em4]; exact hQ.go (by rw [hP.bg]; exact hB) (by omega) (by omega)
                              have hQ_m5 : rel S m5 x (uGo u.1 (Y p / 2) (Y p % 2) tm p 1) := by rw [em5]; exact hQ_m4.upI (by omega) (by omega) (fun z => by unfold rIn at z; omega)
                              have hQ_m6 : rel S m6 x (uGo u.1 (Y p / 2) (Y p % 2) tm p 1) := by rw [em6]; exact hQ_m5.upI (by omega) (by omega) (fun z => by unfold rIn at z; omega)
                              have hQ_m7 : rel S m7 x (uGo u.1 (Y p / 2) (Y p % 2) tm p 1) := by rw [em7]; exact hQ_m6.upI (by omega) (by omega) (fun z => by unfold rIn at z; omega)
                              have hQ_m8 : rel S m8 x (uGo u.1 (Y p / 2) (Y p % 2) tm p 1) := by rw [em8]; exact hQ_m7.upI (by omega) (by omega) (fun z => by unfold rIn at z; omega)
                              have hQz := hQ_m8
                              have hPz : aPl A (uGo u.1 (Y p / 2) (Y p % 2) tm p 1) := hP.go hgv0 (by omega)
                              have hoz : zOut x m m8 := fun a a0 a1 j => by rw [em8, zup_ne (by omega), em7, zup_ne (by omega), em6, zup_ne (by omega), em5, zup_ne (by omega), em4, zgo_ne (by omega)]; exact hoA a a0 a1 j
                              have hfz : ∀ a, x + 20 ≤ a → a < x + 26 → ∀ j, m8 a j = m a j := fun a a0 a1 j => by rw [em8, zup_ne (by omega), em7, zup_ne (by omega), em6, zup_ne (by omega), em5, zup_ne (by omega), em4, zgo_ne (by omega)]; exact hfr a a0 a1 j
                              have hLz : ∀ j, 0 ≤ j → j < 16 → m8 (x + 39) j = fSet u.2.1 (Y p) ((u.2.1 (Y p)) - 1) j := fun j a b => by
                                rw [em8, zup_ne (by omega), em7, zup_ne (by omega)]
                                rw [em6]
                                by_cases z : j = Y p
                                · rw [z, zup_at, fSet_at]
                                · rw [zup_ne (fun y => z y.2), fSet_ne z, em5, zup_ne (by omega), em4, zgo_ne (by omega)]; exact hLm j a b
                              have hOz : ∀ j, 0 ≤ j → j < 16 → m8 (x + 40) j = fSet u.2.2.1 (Y p) (tm + 1) j := fun j a b => by
                                rw [em8, zup_ne (by omega)]
                                rw [em7]
                                by_cases z : j = Y p
                                · rw [z, zup_at, fSet_at]
                                · rw [zup_ne (fun y => z y.2), fSet_ne z, em6, zup_ne (by omega), em5, zup_ne (by omega), em4, zgo_ne (by omega)]; exact hOm j a b
                              have hWz : ∀ j, 0 ≤ j → j < (K 0) → m8 (x + 42) j = fSet u.2.2.2.1 p (Y p) j := fun j a b => by
                                rw [em8]
                                by_cases z : j = p
                                · rw [z, zup_at, fSet_at]
                                · rw [zup_ne (fun y => z y.2), fSet_ne z, em7, zup_ne (by omega), em6, zup_ne (by omega), em5, zup_ne (by omega), em4, zgo_ne (by omega)]; exact hWm j a b
                              have hNz : ∀ j, 0 ≤ j → j < (K 0) → m8 (x + 41) j = Y j := fun j a b => by rw [em8, zup_ne (by omega), em7, zup_ne (by omega), em6, zup_ne (by omega), em5, zup_ne (by omega), em4, zgo_ne (by omega)]; exact hNm j a b
                              have acx : ∀ j, j ≠ p → cAc Y t.2.2.2.1 (p + 1) j → cAc Y t.2.2.2.1 p j := fun j hj q => by
                                unfold cAc at q ⊢
                                by_cases z : j < p
                                · rw [if_pos z]; rw [if_pos (by omega)] at q; exact q
                                · rw [if_neg z]; rw [if_neg (by omega)] at q; exact q
                              have hGz : ∀ j, 0 ≤ j → j < (K 0) → cAc Y t.2.2.2.1 (p + 1) j → m8 (x + 43) j = fSet u.2.2.2.2 p (u.1 2 58) j := fun j a b q => by
                                rw [em8, zup_ne (by omega), em7, zup_ne (by omega), em6, zup_ne (by omega), em5]
                                by_cases z : j = p
                                · rw [z, zup_at, fSet_at]
                                · rw [zup_ne (fun y => z y.2), fSet_ne z, em4, zgo_ne (by omega)]; exact hGm j a b (acx j z q)
                              have hLbz : ∀ j, 0 ≤ j → j < 16 → 0 ≤ fSet u.2.1 (Y p) (u.2.1 (Y p) - 1) j ∧ fSet u.2.1 (Y p) (u.2.1 (Y p) - 1) j ≤ 20 := fun j a b => by
                                have q := hLb j a b
                                by_cases z : j = Y p
                                · rw [z, fSet_at]; omega
                                · rw [fSet_ne z]; exact q
                              have hObz : ∀ j, 0 ≤ j → j < 16 → 0 ≤ fSet u.2.2.1 (Y p) (tm + 1) j ∧ fSet u.2.2.1 (Y p) (tm + 1) j ≤ 1000 := fun j a b => by
                                have q := hOb j a b
                                by_cases z : j = Y p
                                · rw [z, fSet_at]; omega
                                · rw [fSet_ne z]; exact q
                              refine zT.iinc 4 dX1_toasts_221 rfl (by decide) (zpre1 rfl (zcI _)) ?_
                              show zT G _ _ _ [zR x, zI r, zI (l2 + (-1)), zI tm, zI (p + 1), zI (Y p)] _ _ _ _ _ _ _
                              refine zT.goto (tgt := 101) dX1_toasts_224 (by decide) ?_
                              refine zT.loc (V' := [zR x, zI r, zI (l2 + (-1)), zI tm, zI (p + 1), zU]) ?_ ⟨Or.inr rfl, Or.inr rfl, Or.inr rfl, Or.inr rfl, Or.inr rfl, Or.inl rfl, trivial⟩
                              exact ih101 _ (uGo u.1 (Y p / 2) (Y p % 2) tm p 1, fSet u.2.1 (Y p) (u.2.1 (Y p) - 1), fSet u.2.2.1 (Y p) (tm + 1), fSet u.2.2.2.1 p (Y p), fSet u.2.2.2.2 p (u.1 2 58)) _ _ (by exact hQz) (by exact hoz) (by exact hfz) (by exact hPz) (by exact hLz) (by exact hLbz) (by exact hOz) (by exact hObz) (by exact hWz) (by exact hNz) (by exact hGz) (by exact hcQ9) (by show _ = zs (fSet u.2.1 (Y p) (u.2.1 (Y p) - 1)) _; omega) (by omega) (by omega) (by exact hu9) (by omega)
                            · have hact : cAc Y t.2.2.2.1 p p := by unfold cAc; rw [if_neg (by omega)]; omega
                              have hgp := hGm p p0 (by omega) hact
                              have hgk := hcQ.2.2.2.1 p p0 (by omega) hact
                              have hgm := hgk.2.2 (Int.le_refl _)
                              have hge := (hQ.pl.2.2 (u.2.2.2.2 p) hgk.1 hgk.2.1).2.2.2.2
                              refine zT.aload_n 0 dX1_toasts_140 rfl rfl ?_
                              refine zT.getF dX1_toasts_141 fX1_73 rfl (zPan.k hQ.sh) (j := 8) (by decide) rfl (zPan.f8 hQ.sh) ?_
                              refine zT.getF dX1_toasts_144 fX1_289 rfl (zPlan.k (zPan.o8 hQ.sh)) (j := 4) (by decide) rfl (zPlan.f304 (zPan.o8 hQ.sh)) ?_
                              refine zT.aload_n 0 dX1_toasts_147 rfl rfl ?_
                              refine zT.getF dX1_toasts_148 fX1_150 rfl (zPan.k hQ.sh) (j := 29) (by decide) rfl (zPan.f29 hQ.sh) ?_
                              refine zT.iload 4 dX1_toasts_151 rfl ?_
                              refine zT.iald dX1_toasts_153 (zPan.a29 hQ.sh) (by first | assumption | exact zq_i _ | exact zand_i _ _ | exact zor_i _ _ | exact zxor_i _ _ | exact zN _ | omega) (by rw [(zPan.n29 hQ.sh)]; first | assumption | exact zq_i _ | exact zand_i _ _ | exact zor_i _ _ | exact zxor_i _ _ | exact zN _ | omega) (fun z153 => ?_)
                              rw [hgp]
                              show zT G _ _ _ _ [zI (u.2.2.2.2 p), zR ((x + 14) + 5)] _ _ _ _ _ _
                              refine zT.dup2 dX1_toasts_154 (zcI _) (zcR _) ?_
                              refine zT.iald dX1_toasts_155 (zPlan.a304 (zPan.o8 hQ.sh)) (by first | assumption | exact zq_i _ | exact zand_i _ _ | exact zor_i _ _ | exact zxor_i _ _ | exact zN _ | omega) (by rw [(zPlan.n304 (zPan.o8 hQ.sh))]; first | assumption | exact zq_i _ | exact zand_i _ _ | exact zor_i _ _ | exact zxor_i _ _ | exact zN _ | omega) (fun z155 => ?_)
                              rw [hge]
                              show zT G _ _ _ _ [zI (aGo (u.1 2) 58 (u.2.2.2.2 p) 4), zI (u.2.2.2.2 p), zR ((x + 14) + 5)] _ _ _ _ _ _
                              refine zT.iconst dX1_toasts_156 ?_
                              refine zT.iadd dX1_toasts_157 ?_
                              refine zT.iast dX1_toasts_158 (zPlan.a304 (zPan.o8 hQ.sh)) (by first | assumption | exact zq_i _ | exact zand_i _ _ | exact zor_i _ _ | exact zxor_i _ _ | exact zN _ | omega) (by rw [(zPlan.n304 (zPan.o8 hQ.sh))]; first | assumption | exact zq_i _ | exact zand_i _ _ | exact zor_i _ _ | exact zxor_i _ _ | exact zN _ | omega) (by first | assumption | exact zq_i _ | exact zand_i _ _ | exact zor_i _ _ | exact zxor_i _ _ | exact zN _ | omega) ?_
                              obtain ⟨m9, em9⟩ : ∃ z, z = zup mB ((x + 14) + 5) (u.2.2.2.2 p) ((aGo (u.1 2) 58 (u.2.2.2.2 p) 4) + 1) := ⟨_, rfl⟩
                              rw [← em9]
                              refine zT.goto (tgt := 188) dX1_toasts_159 (by decide) ?_
                              refine zT.aload_n 0 dX1_toasts_188 rfl rfl ?_
                              refine zT.getF dX1_toasts_189 fX1_138 rfl (zPan.k hQ.sh) (j := 25) (by decide) rfl (zPan.f25 hQ.sh) ?_
                              refine zT.iload 5 dX1_toasts_192 rfl ?_
                              refine zT.dup2 dX1_toasts_194 (zcI _) (zcR _) ?_
                              refine zT.iald dX1_toasts_195 (zPan.a25 hQ.sh) (by first | assumption | exact zq_i _ | exact zand_i _ _ | exact zor_i _ _ | exact zxor_i _ _ | exact zN _ | omega) (by rw [(zPan.n25 hQ.sh)]; first | assumption | exact zq_i _ | exact zand_i _ _ | exact zor_i _ _ | exact zxor_i _ _ | exact zN _ | omega) (fun z195 => ?_)
                              have r195 : m9 (x + 39) (Y p) = mB (x + 39) (Y p) := by rw [em9, zup_ne (by omega)]
                              rw [r195] at z195 ⊢
                              rw [hl9]
                              show zT G _ _ _ _ [zI (u.2.1 (Y p)), zI (Y p), zR (x + 39)] _ _ _ _ _ _
                              refine zT.iconst dX1_toasts_196 ?_
                              refine zT.isub dX1_toasts_197 ?_
                              refine zT.iast dX1_toasts_198 (zPan.a25 hQ.sh) (by first | assumption | exact zq_i _ | exact zand_i _ _ | exact zor_i _ _ | exact zxor_i _ _ | exact zN _ | omega) (by rw [(zPan.n25 hQ.sh)]; first | assumption | exact zq_i _ | exact zand_i _ _ | exact zor_i _ _ | exact zxor_i _ _ | exact zN _ | omega) (by first | assumption | exact zq_i _ | exact zand_i _ _ | exact zor_i _ _ | exact zxor_i _ _ | exact zN _ | omega) ?_
                              obtain ⟨m10, em10⟩ : ∃ z, z = zup m9 (x + 39) (Y p) ((u.2.1 (Y p)) - 1) := ⟨_, rfl⟩
                              rw [← em10]
                              refine zT.aload_n 0 dX1_toasts_199 rfl rfl ?_
                              refine zT.getF dX1_toasts_200 fX1_141 rfl (zPan.k hQ.sh) (j := 26) (by decide) rfl (zPan.f26 hQ.sh) ?_
                              refine zT.iload 5 dX1_toasts_203 rfl ?_
                              refine zT.iload_n 3 dX1_toasts_205 rfl rfl ?_
                              refine zT.iconst dX1_toasts_206 ?_
                              refine zT.iadd dX1_toasts_207 ?_
                              refine zT.iast dX1_toasts_208 (zPan.a26 hQ.sh) (by first | assumption | exact zq_i _ | exact zand_i _ _ | exact zor_i _ _ | exact zxor_i _ _ | exact zN _ | omega) (by rw [(zPan.n26 hQ.sh)]; first | assumption | exact zq_i _ | exact zand_i _ _ | exact zor_i _ _ | exact zxor_i _ _ | exact zN _ | omega) (by first | assumption | exact zq_i _ | exact zand_i _ _ | exact zor_i _ _ | exact zxor_i _ _ | exact zN _ | omega) ?_
                              obtain ⟨m11, em11⟩ : ∃ z, z = zup m10 (x + 40) (Y p) (tm + 1) := ⟨_, rfl⟩
                              rw [← em11]
                              refine zT.iinc 2 dX1_toasts_209 rfl (by decide) (zpre1 rfl (zcI _)) ?_
                              show zT G _ _ _ [zR x, zI r, zI (l2 + (-1)), zI tm, zI p, zI (Y p)] _ _ _ _ _ _ _
                              refine zT.aload_n 0 dX1_toasts_212 rfl rfl ?_
                              refine zT.getF dX1_toasts_213 fX1_147 rfl (zPan.k hQ.sh) (j := 28) (by decide) rfl (zPan.f28 hQ.sh) ?_
                              refine zT.iload 4 dX1_toasts_216 rfl ?_
                              refine zT.iload 5 dX1_toasts_218 rfl ?_
                              refine zT.iast dX1_toasts_220 (zPan.a28 hQ.sh) (by first | assumption | exact zq_i _ | exact zand_i _ _ | exact zor_i _ _ | exact zxor_i _ _ | exact zN _ | omega) (by rw [(zPan.n28 hQ.sh)]; first | assumption | exact zq_i _ | exact zand_i _ _ | exact zor_i _ _ | exact zxor_i _ _ | exact zN _ | omega) (by first | assumption | exact zq_i _ | exact zand_i _ _ | exact zor_i _ _ | exact zxor_i _ _ | exact zN _ | omega) ?_
                              obtain ⟨m12, em12⟩ : ∃ z, z = zup m11 (x + 42) p (Y p) := ⟨_, rfl⟩
                              rw [← em12]
                              have hsm : Y p = u.2.2.2.1 p := by omega
                              have e1 : cT1 tm Y p u = (uMny u.1 (u.2.2.2.2 p), fSet u.2.1 (Y p) (u.2.1 (Y p) - 1), fSet u.2.2.1 (Y p) (tm + 1), fSet u.2.2.2.1 p (Y p), u.2.2.2.2) := by
                                unfold cT1
                                rw [if_neg hnn, if_neg hnn, if_neg hnn, if_pos hsm, if_pos (Or.inr hsm)]
                              have hcQ9 := hcQ.st hk p0 (by omega) tm0 (by omega) hwp (by exact Or.inr ⟨nn0, nn1, nn2⟩) (zs_b (B := 20) (by omega) (fun j a b => hLb j a (by omega))).1
                              rw [e1] at hcQ9
                              have hu9 : (uMny u.1 (u.2.2.2.2 p), fSet u.2.1 (Y p) (u.2.1 (Y p) - 1), fSet u.2.2.1 (Y p) (tm + 1), fSet u.2.2.2.1 p (Y p), u.2.2.2.2) = cTl tm Y (p + 1).toNat t := by
                                rw [← e1, show (p + 1).toNat = p.toNat + 1 by omega]
                                show _ = cT1 tm Y ((p.toNat : Nat) : Int) (cTl tm Y p.toNat t)
                                rw [← hu, show ((p.toNat : Nat) : Int) = p by omega]
                              have hQ_m9 : rel S m9 x (uMny u.1 (u.2.2.2.2 p)) := by rw [em9]; exact hQ.mny (by rw [hP.bg]; exact hB) hgk.1 hgk.2.1 (by omega)
                              have hQ_m10 : rel S m10 x (uMny u.1 (u.2.2.2.2 p)) := by rw [em10]; exact hQ_m9.upI (by omega) (by omega) (fun z => by unfold rIn at z; omega)
                              have hQ_m11 : rel S m11 x (uMny u.1 (u.2.2.2.2 p)) := by rw [em11]; exact hQ_m10.upI (by omega) (by omega) (fun z => by unfold rIn at z; omega)
                              have hQ_m12 : rel S m12 x (uMny u.1 (u.2.2.2.2 p)) := by rw [em12]; exact hQ_m11.upI (by omega) (by omega) (fun z => by unfold rIn at z; omega)
                              have hQz := hQ_m12
                              have hPz : aPl A (uMny u.1 (u.2.2.2.2 p)) := hP.mny hgk.1 (by have := hcQ.1.2.1; omega)
                              have hoz : zOut x m m12 := fun a a0 a1 j => by rw [em12, zup_ne (by omega), em11, zup_ne (by omega), em10, zup_ne (by omega), em9, zup_ne (by omega)]; exact hoA a a0 a1 j
                              have hfz : ∀ a, x + 20 ≤ a → a < x + 26 → ∀ j, m12 a j = m a j := fun a a0 a1 j => by rw [em12, zup_ne (by omega), em11, zup_ne (by omega), em10, zup_ne (by omega), em9, zup_ne (by omega)]; exact hfr a a0 a1 j
                              have hLz : ∀ j, 0 ≤ j → j < 16 → m12 (x + 39) j = fSet u.2.1 (Y p) ((u.2.1 (Y p)) - 1) j := fun j a b => by
                                rw [em12, zup_ne (by omega), em11, zup_ne (by omega)]
                                rw [em10]
                                by_cases z : j = Y p
                                · rw [z, zup_at, fSet_at]
                                · rw [zup_ne (fun y => z y.2), fSet_ne z, em9, zup_ne (by omega)]; exact hLm j a b
                              have hOz : ∀ j, 0 ≤ j → j < 16 → m12 (x + 40) j = fSet u.2.2.1 (Y p) (tm + 1) j := fun j a b => by
                                rw [em12, zup_ne (by omega)]
                                rw [em11]
                                by_cases z : j = Y p
                                · rw [z, zup_at, fSet_at]
                                · rw [zup_ne (fun y => z y.2), fSet_ne z, em10, zup_ne (by omega), em9, zup_ne (by omega)]; exact hOm j a b
                              have hWz : ∀ j, 0 ≤ j → j < (K 0) → m12 (x + 42) j = fSet u.2.2.2.1 p (Y p) j := fun j a b => by
                                rw [em12]
                                by_cases z : j = p
                                · rw [z, zup_at, fSet_at]
                                · rw [zup_ne (fun y => z y.2), fSet_ne z, em11, zup_ne (by omega), em10, zup_ne (by omega), em9, zup_ne (by omega)]; exact hWm j a b
                              have hNz : ∀ j, 0 ≤ j → j < (K 0) → m12 (x + 41) j = Y j := fun j a b => by rw [em12, zup_ne (by omega), em11, zup_ne (by omega), em10, zup_ne (by omega), em9, zup_ne (by omega)]; exact hNm j a b
                              have acx : ∀ j, j ≠ p → cAc Y t.2.2.2.1 (p + 1) j → cAc Y t.2.2.2.1 p j := fun j hj q => by
                                unfold cAc at q ⊢
                                by_cases z : j < p
                                · rw [if_pos z]; rw [if_pos (by omega)] at q; exact q
                                · rw [if_neg z]; rw [if_neg (by omega)] at q; exact q
                              have hGz : ∀ j, 0 ≤ j → j < (K 0) → cAc Y t.2.2.2.1 (p + 1) j → m12 (x + 43) j = u.2.2.2.2 j := fun j a b q => by
                                rw [em12, zup_ne (by omega), em11, zup_ne (by omega), em10, zup_ne (by omega), em9, zup_ne (by omega)]
                                by_cases z : j = p
                                · rw [z]; exact hGm p p0 (by omega) hact
                                · exact hGm j a b (acx j z q)
                              have hLbz : ∀ j, 0 ≤ j → j < 16 → 0 ≤ fSet u.2.1 (Y p) (u.2.1 (Y p) - 1) j ∧ fSet u.2.1 (Y p) (u.2.1 (Y p) - 1) j ≤ 20 := fun j a b => by
                                have q := hLb j a b
                                by_cases z : j = Y p
                                · rw [z, fSet_at]; omega
                                · rw [fSet_ne z]; exact q
                              have hObz : ∀ j, 0 ≤ j → j < 16 → 0 ≤ fSet u.2.2.1 (Y p) (tm + 1) j ∧ fSet u.2.2.1 (Y p) (tm + 1) j ≤ 1000 := fun j a b => by
                                have q := hOb j a b
                                by_cases z : j = Y p
                                · rw [z, fSet_at]; omega
                                · rw [fSet_ne z]; exact q
                              refine zT.iinc 4 dX1_toasts_221 rfl (by decide) (zpre1 rfl (zcI _)) ?_
                              show zT G _ _ _ [zR x, zI r, zI (l2 + (-1)), zI tm, zI (p + 1), zI (Y p)] _ _ _ _ _ _ _
                              refine zT.goto (tgt := 101) dX1_toasts_224 (by decide) ?_
                              refine zT.loc (V' := [zR x, zI r, zI (l2 + (-1)), zI tm, zI (p + 1), zU]) ?_ ⟨Or.inr rfl, Or.inr rfl, Or.inr rfl, Or.inr rfl, Or.inr rfl, Or.inl rfl, trivial⟩
                              exact ih101 _ (uMny u.1 (u.2.2.2.2 p), fSet u.2.1 (Y p) (u.2.1 (Y p) - 1), fSet u.2.2.1 (Y p) (tm + 1), fSet u.2.2.2.1 p (Y p), u.2.2.2.2) _ _ (by exact hQz) (by exact hoz) (by exact hfz) (by exact hPz) (by exact hLz) (by exact hLbz) (by exact hOz) (by exact hObz) (by exact hWz) (by exact hNz) (by exact hGz) (by exact hcQ9) (by show _ = zs (fSet u.2.1 (Y p) (u.2.1 (Y p) - 1)) _; omega) (by omega) (by omega) (by exact hu9) (by omega)
                    exact L101 _ _ t _ _ (by exact hQ9) (by exact ho9) (by exact hfr9) (by exact hP) (by exact fun j a b => by rw [hf95 _ _ (by omega)]; exact hLm j a b) (by exact hLb) (by exact fun j a b => by rw [hf95 _ _ (by omega)]; exact hOm j a b) (by exact hOb) (by exact fun j a b => by rw [hf95 _ _ (by omega)]; exact hWm j a b) (by exact hN95) (by
                        exact fun j a b q => by
                          rw [hf95 _ _ (by omega)]
                          exact hGm j a b (by unfold cAc at q; rw [if_neg (by omega)] at q; exact q)) (by exact hcP Y) (by exact hl) (by first | assumption | exact zq_i _ | exact zand_i _ _ | exact zor_i _ _ | exact zxor_i _ _ | exact zN _ | omega) (by first | assumption | exact zq_i _ | exact zand_i _ _ | exact zor_i _ _ | exact zxor_i _ _ | exact zN _ | omega) (by rfl) (Nat.lt_succ_self _)
              exact L83 _ _ (uNil A, fL0 K, (fun _ => 0), (fun _ => -1), (fun _ => 0)) _ _ 700 (by exact hQ) (by exact hoA) (by exact hfr) (by exact aPl.rf.nil) (by exact hLm) (by exact fun j a b => fL0_b hk a b) (by exact hOm) (by exact fun _ _ _ => ⟨Int.le_refl _, by show (0 : Int) ≤ 1000; omega⟩) (by exact fun j a b => hWm j a (by omega)) (by exact fun _ _ _ q => absurd rfl q) (by exact cI.s0 hk (fun _ _ _ => rfl) (fun _ _ _ => rfl) (fun _ _ _ => rfl)) (by exact fun Y => cPv.s0 hk (fun _ _ _ => rfl)) (by rw [fL0_s (by omega)]) (by omega) (by rfl) (by exact hRR) (Nat.lt_succ_self _)
            · refine zT.aload_n 0 dX1_toasts_60 rfl rfl ?_
              refine zT.getF dX1_toasts_61 fX1_147 rfl (zPan.k hQ.sh) (j := 28) (by decide) rfl (zPan.f28 hQ.sh) ?_
              refine zT.iload_n 2 dX1_toasts_64 rfl rfl ?_
              refine zT.iconst dX1_toasts_65 ?_
              refine zT.iast dX1_toasts_66 (zPan.a28 hQ.sh) (by first | assumption | exact zq_i _ | exact zand_i _ _ | exact zor_i _ _ | exact zxor_i _ _ | exact zN _ | omega) (by rw [(zPan.n28 hQ.sh)]; first | assumption | exact zq_i _ | exact zand_i _ _ | exact zor_i _ _ | exact zxor_i _ _ | exact zN _ | omega) (by first | assumption | exact zq_i _ | exact zand_i _ _ | exact zor_i _ _ | exact zxor_i _ _ | exact zN _ | omega) ?_
              obtain ⟨m13, em13⟩ : ∃ z, z = zup mA (x + 42) i (-1) := ⟨_, rfl⟩
              rw [← em13]
              refine zT.iinc 2 dX1_toasts_67 rfl (by decide) (zpre1 rfl (zcI _)) ?_
              show zT G _ _ _ [zR x, zI r, zI (i + 1), zU, zU, zU] _ _ _ _ _ _ _
              refine zT.goto (tgt := 55) dX1_toasts_70 (by decide) ?_
              exact ih55 _ _ (by rw [em13]; exact hQ.upI (by omega) (by omega) (fun z => by unfold rIn at z; omega)) (by rw [em13]; exact hoA.up (by omega)) (by exact fun a a0 a1 j => by rw [em13, zup_ne (by omega)]; exact hfr a a0 a1 j) (by omega) (by omega) (by exact fun j a b => by rw [em13, zup_ne (by omega)]; exact hLm j a b) (by exact fun j a b => by rw [em13, zup_ne (by omega)]; exact hOm j a b) (by
                  exact fun j a b => by
                    by_cases z : j = i
                    · rw [z, em13, zup_at]
                    · rw [em13, zup_ne (by omega)]; exact hWm j a (by omega)) (by omega)
        exact L55 _ _ _ (by exact hQ) (by exact hoA) (by exact hfr) (by first | assumption | exact zq_i _ | exact zand_i _ _ | exact zor_i _ _ | exact zxor_i _ _ | exact zN _ | omega) (by first | assumption | exact zq_i _ | exact zand_i _ _ | exact zor_i _ _ | exact zxor_i _ _ | exact zN _ | omega) (by exact hLm) (by exact fun j a b => hOm j a (by omega)) (by exact fun j a b => by omega) (Nat.lt_succ_self _)
      · refine zT.aload_n 0 dX1_toasts_40 rfl rfl ?_
        refine zT.getF dX1_toasts_41 fX1_141 rfl (zPan.k hQ.sh) (j := 26) (by decide) rfl (zPan.f26 hQ.sh) ?_
        refine zT.iload_n 2 dX1_toasts_44 rfl rfl ?_
        refine zT.iconst dX1_toasts_45 ?_
        refine zT.iast dX1_toasts_46 (zPan.a26 hQ.sh) (by first | assumption | exact zq_i _ | exact zand_i _ _ | exact zor_i _ _ | exact zxor_i _ _ | exact zN _ | omega) (by rw [(zPan.n26 hQ.sh)]; first | assumption | exact zq_i _ | exact zand_i _ _ | exact zor_i _ _ | exact zxor_i _ _ | exact zN _ | omega) (by first | assumption | exact zq_i _ | exact zand_i _ _ | exact zor_i _ _ | exact zxor_i _ _ | exact zN _ | omega) ?_
        obtain ⟨m14, em14⟩ : ∃ z, z = zup mA (x + 40) i 0 := ⟨_, rfl⟩
        rw [← em14]
        refine zT.iinc 2 dX1_toasts_47 rfl (by decide) (zpre1 rfl (zcI _)) ?_
        show zT G _ _ _ [zR x, zI r, zI (i + 1), zU, zU, zU] _ _ _ _ _ _ _
        refine zT.goto (tgt := 31) dX1_toasts_50 (by decide) ?_
        exact ih31 _ _ (by rw [em14]; exact hQ.upI (by omega) (by omega) (fun z => by unfold rIn at z; omega)) (by rw [em14]; exact hoA.up (by omega)) (by exact fun a a0 a1 j => by rw [em14, zup_ne (by omega)]; exact hfr a a0 a1 j) (by omega) (by omega) (by exact fun j a b => by rw [em14, zup_ne (by omega)]; exact hLm j a b) (by
            exact fun j a b => by
              by_cases z : j = i
              · rw [z, em14, zup_at]
              · rw [em14, zup_ne (by omega)]; exact hOm j a (by omega)) (by omega)
  exact L31 _ _ _ (by exact hQ2) (by exact ho2) (by exact hf2) (by first | assumption | exact zq_i _ | exact zand_i _ _ | exact zor_i _ _ | exact zxor_i _ _ | exact zN _ | omega) (by first | assumption | exact zq_i _ | exact zand_i _ _ | exact zor_i _ _ | exact zxor_i _ _ | exact zN _ | omega) (by exact hL2) (by exact fun j a b => by omega) (Nat.lt_succ_self _)

theorem C_X1_cook {G : zG}  {S : zS} {m : zMm} {x : Int} {A : zMm} (hR : rel S m x A) {r : Int} (hr : zi r) : zC G mX1_cook 5 6 2006 [zR x, zI r] S m (fun v S' m' => zPo S m x (some (zI (if (aK (A 0 1023) (A 2)) 5 = 0 ∨ ¬ (0 ≤ r ∧ r ≤ 2) then -1 else (cRn (aK (A 0 1023) (A 2)) r 700 0 (uNil (uSnap (uLay A)), fL0 (aK (A 0 1023) (A 2)), (fun _ => 0), (fun _ => -1), (fun _ => 0))).2))) (if (aK (A 0 1023) (A 2)) 5 = 0 ∨ ¬ (0 ≤ r ∧ r ≤ 2) then uLay A else (cRn (aK (A 0 1023) (A 2)) r 700 0 (uNil (uSnap (uLay A)), fL0 (aK (A 0 1023) (A 2)), (fun _ => 0), (fun _ => -1), (fun _ => 0))).1) v S' m' ∧ (¬ ((aK (A 0 1023) (A 2)) 5 = 0 ∨ ¬ (0 ≤ r ∧ r ≤ 2)) → gSl ((aK (A 0 1023) (A 2)) 5) ((cRn (aK (A 0 1023) (A 2)) r 700 0 (uNil (uSnap (uLay A)), fL0 (aK (A 0 1023) (A 2)), (fun _ => 0), (fun _ => -1), (fun _ => 0))).1 2 58) (aGo ((cRn (aK (A 0 1023) (A 2)) r 700 0 (uNil (uSnap (uLay A)), fL0 (aK (A 0 1023) (A 2)), (fun _ => 0), (fun _ => -1), (fun _ => 0))).1 2) 58))) zNX := by
  have hk := hR.vki.1
  have hKi := (hR.ki.2.1).ki hk
  have hKn := hKi.nu
  have hkr := hR.ki.2.1
  have hkf := hkr.2.1
  have hk0 := hk.1
  have hL := hR.lay
  have hB : uLay A 0 1023 = 1 := uLay_bg hR.vbg
  have hK0 := uSL_K hR.vbg
  have hA0 := uSL_b hR.vbg
  refine zC.of [zR x, zI r] (by decide) rfl (zEn1 (zcR _) (zEn1 (zcI _) (zEn0 (by simp)))) rfl ?_
  refine zT.aload_n 0 dX1_cook_0 rfl rfl ?_
  refine zT.getR dX1_cook_1 fX1_66 rfl (zPan.k hR.sh) (j := 7) (by decide) rfl ?_
  refine zT.getI dX1_cook_4 fX1_228 rfl (zKit.k hR.ki.2.1.1) (j := 8) (by decide) rfl (fun z4 => ?_)
  refine zT.if_eq (tgt := 19) dX1_cook_7 (by decide) (by first | assumption | exact zq_i _ | exact zand_i _ _ | exact zor_i _ _ | exact zxor_i _ _ | exact zN _ | omega) (fun c7 => ?_) (fun c7 => ?_)
  · refine zT.iconst dX1_cook_19 ?_
    refine zT.iret dX1_cook_20 rfl ?_
    exact ⟨by rw [if_pos (by omega), if_pos (by omega)]; exact ⟨rfl, zGr.rf, hL, zOut.rf⟩, fun q => absurd (by omega) q⟩
  · refine zT.iload_n 1 dX1_cook_10 rfl rfl ?_
    refine zT.iconst dX1_cook_11 ?_
    refine zT.iconst dX1_cook_12 ?_
    refine zT.callS (M' := mX1_isIn) [zI r, zI 0, zI 2] [] dX1_cook_13 kX1_231 rfl rfl (C_X1_isIn (by first | assumption | exact zq_i _ | exact zand_i _ _ | exact zor_i _ _ | exact zxor_i _ _ | exact zN _ | omega) (by first | assumption | exact zq_i _ | exact zand_i _ _ | exact zor_i _ _ | exact zxor_i _ _ | exact zN _ | omega) (by first | assumption | exact zq_i _ | exact zand_i _ _ | exact zor_i _ _ | exact zxor_i _ _ | exact zN _ | omega)) (by decide) (k' := 6) (n' := 2006) (by omega) (by omega) (by decide) (zdk (v := some (zI (zq (0 ≤ r ∧ r ≤ 2)))) ?_) (fun _ _ _ _ h => h.elim)
    show zT G _ _ _ _ [zI (zq (0 ≤ r ∧ r ≤ 2))] _ _ _ _ _ _
    refine zT.if_neB (tgt := 21) dX1_cook_16 (by decide) (fun c16 => ?_) (fun c16 => ?_)
    · refine zT.aload_n 0 dX1_cook_21 rfl rfl ?_
      refine zT.callV (M' := mX1_keep) (b := x) [] [] dX1_cook_22 kX1_270 rfl rfl (ci := 0) (r := (RX1, TX1, 42)) rfl (zPan.k hR.sh) (C_X1_keep hL) (by decide) (k' := 0) (n' := 0) (by omega) (by omega) (by decide) (fun v22 S22_ m22_ h22 => ?_) (fun _ _ _ _ h => h.elim)
      obtain ⟨rfl, g22, hR22, o22⟩ := h22
      show zT G _ _ _ _ [] _ _ _ _ _ _
      refine zT.aload_n 0 dX1_cook_25 rfl rfl ?_
      refine zT.iload_n 1 dX1_cook_26 rfl rfl ?_
      refine zT.callV (M' := mX1_toasts) (b := x) [zI r] [] dX1_cook_27 kX1_409 rfl rfl (ci := 0) (r := (RX1, TX1, 42)) rfl (zPan.k hR22.sh) (C_X1_toasts hR22 (aPl.rf.K hK0) hk (by omega) hA0) (by decide) (k' := 0) (n' := 0) (by omega) (by omega) (by decide) (fun v27 S27_ m27_ h27 => ?_) (fun _ _ _ _ h => h.elim)
      obtain ⟨rfl, eS27, hQ27, o27, hP27, hs27, hf27, t0, t1⟩ := h27
      have eS27 := eS27.symm
      subst eS27
      show zT G _ _ _ _ [zI ((cRn (aK (A 0 1023) (A 2)) r 700 0 (uNil (uSnap (uLay A)), fL0 (aK (A 0 1023) (A 2)), (fun _ => 0), (fun _ => -1), (fun _ => 0))).2)] _ _ _ _ _ _
      refine zT.iret dX1_cook_30 rfl ?_
      refine ⟨?_, fun _ => hs27⟩
      rw [if_neg (by omega), if_neg (by omega)]
      exact ⟨rfl, g22, hQ27, o22.tr o27⟩
    · refine zT.iconst dX1_cook_19 ?_
      refine zT.iret dX1_cook_20 rfl ?_
      exact ⟨by rw [if_pos (by omega), if_pos (by omega)]; exact ⟨rfl, zGr.rf, hL, zOut.rf⟩, fun q => absurd (by omega) q⟩

