/-! several, both sides (written by gen/m_sev.py) -/
theorem C_X1_bound0 {G : zG} {S : zS} {m : zMm} {x : Int} {A : zMm} (hR : rel S m x A) : zC G mX1_bound 2 0 0 [zR x, zI 0] S m (zDet (some (zI (fLng (aK (A 0 1023) (A 2)) ((aK (A 0 1023) (A 2)) 5)))) S m) zNX := by
  have h := C_X1_bound (G := G) hR (w := 0) (by decide)
  rw [if_pos rfl] at h
  exact h
theorem C_X1_bound1 {G : zG} {S : zS} {m : zMm} {x : Int} {A : zMm} (hR : rel S m x A) : zC G mX1_bound 2 0 0 [zR x, zI 1] S m (zDet (some (zI ((fAll (aK (A 0 1023) (A 2)) ((aK (A 0 1023) (A 2)) 5) + (aK (A 0 1023) (A 2)) 0 - 1) / (aK (A 0 1023) (A 2)) 0))) S m) zNX := by
  have h := C_X1_bound (G := G) hR (w := 1) (by decide)
  rw [if_neg (by decide), if_pos rfl] at h
  exact h
theorem C_X1_several {G : zG}  {S : zS} {m : zMm} {x : Int} {A : zMm} (hR : rel S m x A)  : zC G mX1_several 4 6 2006 [zR x] S m (fun v S' m' => zPo S m x (some (zI (if (aK (A 0 1023) (A 2)) 5 = 0 then -1 else fCut (aK (A 0 1023) (A 2))))) (if (aK (A 0 1023) (A 2)) 5 = 0 then uLay A else svOut (fCut (aK (A 0 1023) (A 2))) (aK (A 0 1023) (A 2)) (2 * (aK (A 0 1023) (A 2)) 5).toNat 0 (uNil (uSnap (uLay A))) 0) v S' m' ∧ ((aK (A 0 1023) (A 2)) 5 ≠ 0 → gSl ((aK (A 0 1023) (A 2)) 5) ((svOut (fCut (aK (A 0 1023) (A 2))) (aK (A 0 1023) (A 2)) (2 * (aK (A 0 1023) (A 2)) 5).toNat 0 (uNil (uSnap (uLay A))) 0) 2 58) (aGo ((svOut (fCut (aK (A 0 1023) (A 2))) (aK (A 0 1023) (A 2)) (2 * (aK (A 0 1023) (A 2)) 5).toNat 0 (uNil (uSnap (uLay A))) 0) 2) 58))) zNX := by
  have hk := hR.vki.1
  have hKi := (hR.ki.2.1).ki hk
  have hKn := hKi.nu
  have hkr := hR.ki.2.1
  have hkf := hkr.2.1
  have hk0 := hk.1
  have hL := hR.lay
  have hB : uLay A 0 1023 = 1 := uLay_bg hR.vbg
  have hK0 := uSL_K hR.vbg
  have hA0 := uSL_b hR.vbg
  refine zC.of [zR x, zU, zU, zU, zU, zU] (by decide) rfl (zEn1 (zcR _) (zEn0 (by simp))) rfl ?_
  refine zT.aload_n 0 dX1_several_0 rfl rfl ?_
  refine zT.getR dX1_several_1 fX1_66 rfl (zPan.k hR.sh) (j := 7) (by decide) rfl ?_
  refine zT.getI dX1_several_4 fX1_228 rfl (zKit.k hR.ki.2.1.1) (j := 8) (by decide) rfl (fun z4 => ?_)
  refine zT.if_ne (tgt := 12) dX1_several_7 (by decide) (by first | assumption | exact zq_i _ | exact zand_i _ _ | exact zor_i _ _ | exact zxor_i _ _ | exact zN _ | omega) (fun c7 => ?_) (fun c7 => ?_)
  · refine zT.aload_n 0 dX1_several_12 rfl rfl ?_
    refine zT.iconst dX1_several_13 ?_
    refine zT.callV (M' := mX1_bound) (b := x) [zI 0] [] dX1_several_14 kX1_364 rfl rfl (ci := 0) (r := (RX1, TX1, 42)) rfl (zPan.k hR.sh) (C_X1_bound0 hR) (by decide) (k' := 6) (n' := 2006) (by omega) (by omega) (by decide) (zdk (v := some (zI (fLng (aK (A 0 1023) (A 2)) ((aK (A 0 1023) (A 2)) 5)))) ?_) (fun _ _ _ _ h => h.elim)
    show zT G _ _ _ _ [zI (fLng (aK (A 0 1023) (A 2)) ((aK (A 0 1023) (A 2)) 5))] _ _ _ _ _ _
    refine zT.aload_n 0 dX1_several_17 rfl rfl ?_
    refine zT.iconst dX1_several_18 ?_
    refine zT.callV (M' := mX1_bound) (b := x) [zI 1] [zI (fLng (aK (A 0 1023) (A 2)) ((aK (A 0 1023) (A 2)) 5))] dX1_several_19 kX1_364 rfl rfl (ci := 0) (r := (RX1, TX1, 42)) rfl (zPan.k hR.sh) (C_X1_bound1 hR) (by decide) (k' := 6) (n' := 2006) (by omega) (by omega) (by simp only [List.map, zcI, zcJ, zcR, List.sum_cons, List.sum_nil]; decide) (zdk (v := some (zI ((fAll (aK (A 0 1023) (A 2)) ((aK (A 0 1023) (A 2)) 5) + (aK (A 0 1023) (A 2)) 0 - 1) / (aK (A 0 1023) (A 2)) 0))) ?_) (fun _ _ _ _ h => h.elim)
    show zT G _ _ _ _ [zI ((fAll (aK (A 0 1023) (A 2)) ((aK (A 0 1023) (A 2)) 5) + (aK (A 0 1023) (A 2)) 0 - 1) / (aK (A 0 1023) (A 2)) 0), zI (fLng (aK (A 0 1023) (A 2)) ((aK (A 0 1023) (A 2)) 5))] _ _ _ _ _ _
    have hLb := fLng_b hk (k := (aK (A 0 1023) (A 2)) 5) (by omega)
    have hAb := fAll_b hk (k := (aK (A 0 1023) (A 2)) 5) (by omega) (by omega)
    have hdb : 0 ≤ (fAll (aK (A 0 1023) (A 2)) ((aK (A 0 1023) (A 2)) 5) + (aK (A 0 1023) (A 2)) 0 - 1) / (aK (A 0 1023) (A 2)) 0 ∧ (fAll (aK (A 0 1023) (A 2)) ((aK (A 0 1023) (A 2)) 5) + (aK (A 0 1023) (A 2)) 0 - 1) / (aK (A 0 1023) (A 2)) 0 ≤ fAll (aK (A 0 1023) (A 2)) ((aK (A 0 1023) (A 2)) 5) + (aK (A 0 1023) (A 2)) 0 - 1 := ⟨Int.ediv_nonneg (by omega) (by omega), Int.ediv_le_self _ (by omega)⟩
    refine zT.mmax dX1_several_22 q1010 (by first | assumption | exact zq_i _ | exact zand_i _ _ | exact zor_i _ _ | exact zxor_i _ _ | exact zN _ | omega) (by first | assumption | exact zq_i _ | exact zand_i _ _ | exact zor_i _ _ | exact zxor_i _ _ | exact zN _ | omega) (by decide) (by decide) ?_
    refine zT.istore_n 1 dX1_several_25 rfl (by decide) (zpre1 rfl (zcR _)) ?_
    show zT G _ _ _ [zR x, zI (max (fLng (aK (A 0 1023) (A 2)) ((aK (A 0 1023) (A 2)) 5)) ((fAll (aK (A 0 1023) (A 2)) ((aK (A 0 1023) (A 2)) 5) + (aK (A 0 1023) (A 2)) 0 - 1) / (aK (A 0 1023) (A 2)) 0)), zU, zU, zU, zU] _ _ _ _ _ _ _
    refine zT.aload_n 0 dX1_several_26 rfl rfl ?_
    refine zT.callV (M' := mX1_keep) (b := x) [] [] dX1_several_27 kX1_270 rfl rfl (ci := 0) (r := (RX1, TX1, 42)) rfl (zPan.k hR.sh) (C_X1_keep hL) (by decide) (k' := 0) (n' := 0) (by omega) (by omega) (by decide) (fun v27 S27_ m27_ h27 => ?_) (fun _ _ _ _ h => h.elim)
    obtain ⟨rfl, g27, hR27, o27⟩ := h27
    show zT G _ _ _ _ [] _ _ _ _ _ _
    refine zT.aload_n 0 dX1_several_30 rfl rfl ?_
    refine zT.getF dX1_several_31 fX1_73 rfl (zPan.k hR27.sh) (j := 8) (by decide) rfl (zPan.f8 hR27.sh) ?_
    refine zT.iconst dX1_several_34 ?_
    refine zT.putI dX1_several_35 fX1_213 zs_305 rfl (zPlan.k (zPan.o8 hR27.sh)) (j := 5) (by decide) rfl (by first | assumption | exact zq_i _ | exact zand_i _ _ | exact zor_i _ _ | exact zxor_i _ _ | exact zN _ | omega) ?_
    obtain ⟨m1, em1⟩ : ∃ z, z = zup m27_ (x + 14) 305 0 := ⟨_, rfl⟩
    rw [← em1]
    have hQ1 : rel S27_ m1 x (uNil (uSnap (uLay A))) := by rw [em1]; exact hR27.nil hA0
    have ho1 : zOut x m m1 := by rw [em1]; exact o27.up (by omega)
    obtain ⟨T, hT0⟩ : ∃ z, z = fCut (aK (A 0 1023) (A 2)) := ⟨_, rfl⟩
    have hTb := fCut_b hk (by omega)
    rw [← hT0] at hTb
    rw [show max (fLng (aK (A 0 1023) (A 2)) ((aK (A 0 1023) (A 2)) 5)) ((fAll (aK (A 0 1023) (A 2)) ((aK (A 0 1023) (A 2)) 5) + (aK (A 0 1023) (A 2)) 0 - 1) / (aK (A 0 1023) (A 2)) 0) = T from hT0.symm]
    obtain ⟨R, hR9⟩ : ∃ z, z = svOut T (aK (A 0 1023) (A 2)) (2 * (aK (A 0 1023) (A 2)) 5).toNat 0 (uNil (uSnap (uLay A))) 0 := ⟨_, rfl⟩
    have hRe : svOut (fCut (aK (A 0 1023) (A 2))) (aK (A 0 1023) (A 2)) (2 * (aK (A 0 1023) (A 2)) 5).toNat 0 (uNil (uSnap (uLay A))) 0 = R := by rw [hR9, hT0]
    have hR9 := hR9.symm
    refine zT.iconst dX1_several_38 ?_
    refine zT.istore_n 2 dX1_several_39 rfl (by decide) (zpre1 rfl (zcI _)) ?_
    show zT G _ _ _ [zR x, zI T, zI 0, zU, zU, zU] _ _ _ _ _ _ _
    refine zT.iconst dX1_several_40 ?_
    refine zT.istore_n 3 dX1_several_41 rfl (by decide) (zpre1 rfl (zcI _)) ?_
    show zT G _ _ _ [zR x, zI T, zI 0, zI 0, zU, zU] _ _ _ _ _ _ _
    have L42 : ∀ (N : Nat) (mA : zMm) (B : zMm) (k : Int) (a : Int) (fo : Nat), (rel S27_ mA x B) → (zOut x m mA) → (aPl (uSnap (uLay A)) B) → (0 ≤ k) → (k ≤ 2 * (aK (A 0 1023) (A 2)) 5) → (a = zs (fL0 (aK (A 0 1023) (A 2))) k) → ((fo : Int) = 2 * (aK (A 0 1023) (A 2)) 5 - k) → (svOut T (aK (A 0 1023) (A 2)) fo k B a = R) → (0 ≤ B 2 58 ∧ B 2 58 ≤ a) → (gSl ((aK (A 0 1023) (A 2)) 5) (B 2 58) (aGo (B 2) 58)) → fo < N → zT G mX1_several 4 42 [zR x, zI T, zI a, zI k, zU, zU] [] S27_ mA 0 0 (fun v S' m' => zPo S m x (some (zI (if (aK (A 0 1023) (A 2)) 5 = 0 then -1 else fCut (aK (A 0 1023) (A 2))))) (if (aK (A 0 1023) (A 2)) 5 = 0 then uLay A else svOut (fCut (aK (A 0 1023) (A 2))) (aK (A 0 1023) (A 2)) (2 * (aK (A 0 1023) (A 2)) 5).toNat 0 (uNil (uSnap (uLay A))) 0) v S' m' ∧ ((aK (A 0 1023) (A 2)) 5 ≠ 0 → gSl ((aK (A 0 1023) (A 2)) 5) ((svOut (fCut (aK (A 0 1023) (A 2))) (aK (A 0 1023) (A 2)) (2 * (aK (A 0 1023) (A 2)) 5).toNat 0 (uNil (uSnap (uLay A))) 0) 2 58) (aGo ((svOut (fCut (aK (A 0 1023) (A 2))) (aK (A 0 1023) (A 2)) (2 * (aK (A 0 1023) (A 2)) 5).toNat 0 (uNil (uSnap (uLay A))) 0) 2) 58))) zNX := by
      intro N
      induction N with
      | zero => intro mA B k a fo hQ hoA hP k0 k1 ha hfo hT hn9 hs9 hN; exact absurd hN (Nat.not_lt_zero _)
      | succ N ih42 =>
        intro mA B k a fo hQ hoA hP k0 k1 ha hfo hT hn9 hs9 hN
        have hkr9 : zKR S27_ mA (mA x 7) (aK (A 0 1023) (A 2)) := (hQ.ki.2.1).kc (hP.K hK0)
        have hk59 := hkr9.2.1.2.2.2.2.2.1
        refine zT.iload_n 3 dX1_several_42 rfl rfl ?_
        refine zT.iconst dX1_several_43 ?_
        refine zT.aload_n 0 dX1_several_44 rfl rfl ?_
        refine zT.getR dX1_several_45 fX1_66 rfl (zPan.k hQ.sh) (j := 7) (by decide) rfl ?_
        refine zT.getI dX1_several_48 fX1_228 rfl (zKit.k hQ.ki.2.1.1) (j := 8) (by decide) rfl (fun z48 => ?_)
        refine zT.imul dX1_several_51 ?_
        refine zT.ic_ge (tgt := 126) dX1_several_52 (by decide) (by first | assumption | exact zq_i _ | exact zand_i _ _ | exact zor_i _ _ | exact zxor_i _ _ | exact zN _ | omega) (by first | assumption | exact zq_i _ | exact zand_i _ _ | exact zor_i _ _ | exact zxor_i _ _ | exact zN _ | omega) (fun c52 => ?_) (fun c52 => ?_)
        · refine zT.iload_n 1 dX1_several_126 rfl rfl ?_
          refine zT.iret dX1_several_127 rfl ?_
          have hz : fo = 0 := by omega
          subst hz
          have hT : B = R := hT
          subst hT
          rw [hRe]
          refine ⟨?_, fun _ => hs9⟩
          rw [if_neg (by omega), if_neg (by omega)]
          exact ⟨by rw [hT0], g27, hQ, hoA⟩
        · obtain ⟨g, rfl⟩ : ∃ g, fo = g + 1 := ⟨fo - 1, by omega⟩
          have hmi := hkr9.min k0 (by omega)
          have hlb := fL0_b hk k0 (by omega)
          have hmn : zs (fL0 (aK (A 0 1023) (A 2))) (k + 1) ≤ zs (fL0 (aK (A 0 1023) (A 2))) (2 * (aK (A 0 1023) (A 2)) 5) := zs_le (by omega) (by omega) (fun j a b => (fL0_b hk a (by omega)).1)
          rw [fL0_s (by omega)] at hmn
          have hfb := fAll_b hk (k := (aK (A 0 1023) (A 2)) 5) (by omega) (by omega)
          have hzn := zs_b (f := fL0 (aK (A 0 1023) (A 2))) (k := k) (B := 20) k0 (fun j a b => fL0_b hk a (by omega))
          obtain ⟨RI, hRI⟩ : ∃ z, z = svIn T k 20 B a (fL0 (aK (A 0 1023) (A 2)) k) := ⟨_, rfl⟩
          have hRI := hRI.symm
          refine zT.aload_n 0 dX1_several_55 rfl rfl ?_
          refine zT.getR dX1_several_56 fX1_66 rfl (zPan.k hQ.sh) (j := 7) (by decide) rfl ?_
          refine zT.getF dX1_several_59 fX1_243 rfl (zKit.k hQ.ki.2.1.1) (j := 2) (by decide) rfl (zKit.f202 hQ.ki.2.1.1) ?_
          refine zT.iload_n 3 dX1_several_62 rfl rfl ?_
          refine zT.iald dX1_several_63 (zKit.a202 hQ.ki.2.1.1) (by first | assumption | exact zq_i _ | exact zand_i _ _ | exact zor_i _ _ | exact zxor_i _ _ | exact zN _ | omega) (by rw [(zKit.n202 hQ.ki.2.1.1)]; first | assumption | exact zq_i _ | exact zand_i _ _ | exact zor_i _ _ | exact zxor_i _ _ | exact zN _ | omega) (fun z63 => ?_)
          rw [hmi]
          show zT G _ _ _ _ [zI (fL0 (aK (A 0 1023) (A 2)) k)] _ _ _ _ _ _
          refine zT.istore 4 dX1_several_64 (by decide) (zpre1 rfl (zcI _)) ?_
          show zT G _ _ _ [zR x, zI T, zI a, zI k, zI (fL0 (aK (A 0 1023) (A 2)) k), zU] _ _ _ _ _ _ _
          have L66 : ∀ (N : Nat) (mB : zMm) (C : zMm) (f : Nat) (d : Int) (l : Int), (rel S27_ mB x C) → (zOut x m mB) → (aPl (uSnap (uLay A)) C) → (0 ≤ l) → (l ≤ f) → (f ≤ 20) → (0 ≤ d) → (d + l = zs (fL0 (aK (A 0 1023) (A 2))) (k + 1)) → (svIn T k f C d l = RI) → (0 ≤ C 2 58 ∧ C 2 58 ≤ d) → (gSl ((aK (A 0 1023) (A 2)) 5) (C 2 58) (aGo (C 2) 58)) → f < N → zT G mX1_several 4 66 [zR x, zI T, zI d, zI k, zI l, zU] [] S27_ mB 0 0 (fun v S' m' => zPo S m x (some (zI (if (aK (A 0 1023) (A 2)) 5 = 0 then -1 else fCut (aK (A 0 1023) (A 2))))) (if (aK (A 0 1023) (A 2)) 5 = 0 then uLay A else svOut (fCut (aK (A 0 1023) (A 2))) (aK (A 0 1023) (A 2)) (2 * (aK (A 0 1023) (A 2)) 5).toNat 0 (uNil (uSnap (uLay A))) 0) v S' m' ∧ ((aK (A 0 1023) (A 2)) 5 ≠ 0 → gSl ((aK (A 0 1023) (A 2)) 5) ((svOut (fCut (aK (A 0 1023) (A 2))) (aK (A 0 1023) (A 2)) (2 * (aK (A 0 1023) (A 2)) 5).toNat 0 (uNil (uSnap (uLay A))) 0) 2 58) (aGo ((svOut (fCut (aK (A 0 1023) (A 2))) (aK (A 0 1023) (A 2)) (2 * (aK (A 0 1023) (A 2)) 5).toNat 0 (uNil (uSnap (uLay A))) 0) 2) 58))) zNX := by
            intro N
            induction N with
            | zero => intro mB C f d l hQ hoA hP l0 l1 f20 ha1 ha2 hT2 hn9 hs9 hN; exact absurd hN (Nat.not_lt_zero _)
            | succ N ih66 =>
              intro mB C f d l hQ hoA hP l0 l1 f20 ha1 ha2 hT2 hn9 hs9 hN
              refine zT.iload 4 dX1_several_66 rfl ?_
              refine zT.if_le (tgt := 120) dX1_several_68 (by decide) (by first | assumption | exact zq_i _ | exact zand_i _ _ | exact zor_i _ _ | exact zxor_i _ _ | exact zN _ | omega) (fun c68 => ?_) (fun c68 => ?_)
              · refine zT.iinc 3 dX1_several_120 rfl (by decide) (zpre1 rfl (zcI _)) ?_
                show zT G _ _ _ [zR x, zI T, zI d, zI (k + 1), zI l, zU] _ _ _ _ _ _ _
                refine zT.goto (tgt := 42) dX1_several_123 (by decide) ?_
                refine zT.loc (V' := [zR x, zI T, zI d, zI (k + 1), zU, zU]) ?_ ⟨Or.inr rfl, Or.inr rfl, Or.inr rfl, Or.inr rfl, Or.inl rfl, Or.inr rfl, trivial⟩
                exact ih42 _ _ _ _ g (by exact hQ) (by exact hoA) (by exact hP) (by first | assumption | exact zq_i _ | exact zand_i _ _ | exact zor_i _ _ | exact zxor_i _ _ | exact zN _ | omega) (by first | assumption | exact zq_i _ | exact zand_i _ _ | exact zor_i _ _ | exact zxor_i _ _ | exact zN _ | omega) (by omega) (by omega) (by
                    rw [← hT]
                    show _ = svOut T (aK (A 0 1023) (A 2)) g (k + 1) (svIn T k 20 B a (fL0 (aK (A 0 1023) (A 2)) k)).1 (svIn T k 20 B a (fL0 (aK (A 0 1023) (A 2)) k)).2
                    rw [hRI, ← hT2, svIn_0 (by omega)]) (by exact hn9) (by exact hs9) (by omega)
              · obtain ⟨f, rfl⟩ : ∃ g, f = g + 1 := ⟨f - 1, by omega⟩
                have hsv := svFct (T := T) (p := (aK (A 0 1023) (A 2)) 0) (a := d) hTb.1 hTb.2.2 ha1 (by omega)
                have hT9 := hT2
                rw [svIn_1 (by omega)] at hT9
                have hpn := hQ.pl.2.1
                refine zT.iload 4 dX1_several_71 rfl ?_
                refine zT.iload_n 1 dX1_several_73 rfl rfl ?_
                refine zT.iload_n 2 dX1_several_74 rfl rfl ?_
                refine zT.iload_n 1 dX1_several_75 rfl rfl ?_
                refine zT.irem dX1_several_76 (by first | assumption | exact zq_i _ | exact zand_i _ _ | exact zor_i _ _ | exact zxor_i _ _ | exact zN _ | omega) (by first | assumption | exact zq_i _ | exact zand_i _ _ | exact zor_i _ _ | exact zxor_i _ _ | exact zN _ | omega) (by first | assumption | exact zq_i _ | exact zand_i _ _ | exact zor_i _ _ | exact zxor_i _ _ | exact zN _ | omega) (by first | assumption | exact zq_i _ | exact zand_i _ _ | exact zor_i _ _ | exact zxor_i _ _ | exact zN _ | omega) ?_
                refine zT.isub dX1_several_77 ?_
                refine zT.mmin dX1_several_78 q1021 (by first | assumption | exact zq_i _ | exact zand_i _ _ | exact zor_i _ _ | exact zxor_i _ _ | exact zN _ | omega) (by first | assumption | exact zq_i _ | exact zand_i _ _ | exact zor_i _ _ | exact zxor_i _ _ | exact zN _ | omega) (by decide) (by decide) ?_
                refine zT.istore 5 dX1_several_81 (by decide) (zpre1 rfl (zcI _)) ?_
                show zT G _ _ _ [zR x, zI T, zI d, zI k, zI l, zI (min l (T - (d % T)))] _ _ _ _ _ _ _
                refine zT.aload_n 0 dX1_several_83 rfl rfl ?_
                refine zT.getF dX1_several_84 fX1_73 rfl (zPan.k hQ.sh) (j := 8) (by decide) rfl (zPan.f8 hQ.sh) ?_
                refine zT.iload_n 3 dX1_several_87 rfl rfl ?_
                refine zT.iconst dX1_several_88 ?_
                refine zT.idiv dX1_several_89 (by first | assumption | exact zq_i _ | exact zand_i _ _ | exact zor_i _ _ | exact zxor_i _ _ | exact zN _ | omega) (by first | assumption | exact zq_i _ | exact zand_i _ _ | exact zor_i _ _ | exact zxor_i _ _ | exact zN _ | omega) (by first | assumption | exact zq_i _ | exact zand_i _ _ | exact zor_i _ _ | exact zxor_i _ _ | exact zN _ | omega) (by first | assumption | exact zq_i _ | exact zand_i _ _ | exact zor_i _ _ | exact zxor_i _ _ | exact zN _ | omega) ?_
                refine zT.iload_n 3 dX1_several_90 rfl rfl ?_
                refine zT.iconst dX1_several_91 ?_
                refine zT.irem dX1_several_92 (by first | assumption | exact zq_i _ | exact zand_i _ _ | exact zor_i _ _ | exact zxor_i _ _ | exact zN _ | omega) (by first | assumption | exact zq_i _ | exact zand_i _ _ | exact zor_i _ _ | exact zxor_i _ _ | exact zN _ | omega) (by first | assumption | exact zq_i _ | exact zand_i _ _ | exact zor_i _ _ | exact zxor_i _ _ | exact zN _ | omega) (by first | assumption | exact zq_i _ | exact zand_i _ _ | exact zor_i _ _ | exact zxor_i _ _ | exact zN _ | omega) ?_
                refine zT.iload_n 2 dX1_several_93 rfl rfl ?_
                refine zT.iload_n 1 dX1_several_94 rfl rfl ?_
                refine zT.irem dX1_several_95 (by first | assumption | exact zq_i _ | exact zand_i _ _ | exact zor_i _ _ | exact zxor_i _ _ | exact zN _ | omega) (by first | assumption | exact zq_i _ | exact zand_i _ _ | exact zor_i _ _ | exact zxor_i _ _ | exact zN _ | omega) (by first | assumption | exact zq_i _ | exact zand_i _ _ | exact zor_i _ _ | exact zxor_i _ _ | exact zN _ | omega) (by first | assumption | exact zq_i _ | exact zand_i _ _ | exact zor_i _ _ | exact zxor_i _ _ | exact zN _ | omega) ?_
                refine zT.iload_n 2 dX1_several_96 rfl rfl ?_
                refine zT.iload_n 1 dX1_several_97 rfl rfl ?_
                refine zT.idiv dX1_several_98 (by first | assumption | exact zq_i _ | exact zand_i _ _ | exact zor_i _ _ | exact zxor_i _ _ | exact zN _ | omega) (by first | assumption | exact zq_i _ | exact zand_i _ _ | exact zor_i _ _ | exact zxor_i _ _ | exact zN _ | omega) (by first | assumption | exact zq_i _ | exact zand_i _ _ | exact zor_i _ _ | exact zxor_i _ _ | exact zN _ | omega) (by first | assumption | exact zq_i _ | exact zand_i _ _ | exact zor_i _ _ | exact zxor_i _ _ | exact zN _ | omega) ?_
                refine zT.iload 5 dX1_several_99 rfl ?_
                refine zT.callV (M' := mX4_go) (b := (x + 14)) [zI (k / 2), zI (k % 2), zI (d % T), zI (d / T), zI (min l (T - (d % T)))] [] dX1_several_101 kX1_335 rfl rfl (ci := 3) (r := (RX4, TX4, 6)) rfl (zPlan.k (zPan.o8 hQ.sh)) (C_X4_go hQ.pl.1 (by omega) (by omega) (by omega) (by omega) (by omega) (by omega) (by omega)) (by decide) (k' := 0) (n' := 0) (by omega) (by omega) (by decide) (zdk (v := some (zI (mB (x + 14) 305))) ?_) (fun _ _ _ _ h => h.elim)
                show zT G _ _ _ _ [zI (mB (x + 14) 305)] _ _ _ _ _ _
                obtain ⟨m2, em2⟩ : ∃ z, z = zgo mB (x + 14) (k / 2) (k % 2) (d % T) (d / T) (min l (T - (d % T))) := ⟨_, rfl⟩
                rw [← em2]
                have hQ2 : rel S27_ m2 x (uGo C (k / 2) (k % 2) (d % T) (d / T) (min l (T - d % T))) := by rw [em2]; exact hQ.go (by rw [hP.bg, hA0]) (by omega) (by omega)
                have ho2 : zOut x m m2 := by rw [em2]; exact hoA.go
                have hP2 : aPl (uSnap (uLay A)) (uGo C (k / 2) (k % 2) (d % T) (d / T) (min l (T - d % T))) := hP.go (by omega) (by omega)
                refine zT.pop dX1_several_104 (zcI _) ?_
                refine zT.iload_n 2 dX1_several_105 rfl rfl ?_
                refine zT.iload 5 dX1_several_106 rfl ?_
                refine zT.iadd dX1_several_108 ?_
                refine zT.istore_n 2 dX1_several_109 rfl (by decide) (zpre1 rfl (zcI _)) ?_
                show zT G _ _ _ [zR x, zI T, zI (d + (min l (T - (d % T)))), zI k, zI l, zI (min l (T - (d % T)))] _ _ _ _ _ _ _
                refine zT.iload 4 dX1_several_110 rfl ?_
                refine zT.iload 5 dX1_several_112 rfl ?_
                refine zT.isub dX1_several_114 ?_
                refine zT.istore 4 dX1_several_115 (by decide) (zpre1 rfl (zcI _)) ?_
                show zT G _ _ _ [zR x, zI T, zI (d + (min l (T - (d % T)))), zI k, zI (l - (min l (T - (d % T)))), zI (min l (T - (d % T)))] _ _ _ _ _ _ _
                refine zT.goto (tgt := 66) dX1_several_117 (by decide) ?_
                refine zT.loc (V' := [zR x, zI T, zI (d + (min l (T - (d % T)))), zI k, zI (l - (min l (T - (d % T)))), zU]) ?_ ⟨Or.inr rfl, Or.inr rfl, Or.inr rfl, Or.inr rfl, Or.inr rfl, Or.inl rfl, trivial⟩
                exact ih66 _ _ f _ _ (by exact hQ2) (by exact ho2) (by exact hP2) (by omega) (by omega) (by omega) (by omega) (by omega) (by exact hT9) (by rw [uGo_n]; omega) (by exact hs9.go hn9.1 (by omega)) (by omega)
          exact L66 _ _ _ 20 _ _ (by exact hQ) (by exact hoA) (by exact hP) (by omega) (by omega) (by exact Nat.le_refl 20) (by omega) (by rw [zs_s k0]; omega) (by exact hRI) (by exact hn9) (by exact hs9) (Nat.lt_succ_self _)
    exact L42 _ _ _ _ _ (2 * (aK (A 0 1023) (A 2)) 5).toNat (by exact hQ1) (by exact ho1) (by exact aPl.rf.nil) (by first | assumption | exact zq_i _ | exact zand_i _ _ | exact zor_i _ _ | exact zxor_i _ _ | exact zN _ | omega) (by first | assumption | exact zq_i _ | exact zand_i _ _ | exact zor_i _ _ | exact zxor_i _ _ | exact zN _ | omega) (by rfl) (by omega) (by exact hR9) (by rw [uNil_n]; omega) (by exact fun k a b => by rw [uNil_n] at b; omega) (Nat.lt_succ_self _)
  · refine zT.iconst dX1_several_10 ?_
    refine zT.iret dX1_several_11 rfl ?_
    exact ⟨by rw [if_pos (by omega), if_pos (by omega)]; exact ⟨rfl, zGr.rf, hL, zOut.rf⟩, fun q => absurd (by omega) q⟩

