/-! PanSlicesModel: morningBy, morning, mornings (written by gen/m_morn6.py) -/
theorem C_X13_drawn2 {G : zG} {S : zS} {m : zMm} {b n5 : Int} (hb : zMod S b) (hL : ∀ j, 0 ≤ j → j < 2 * n5 → 0 ≤ m (b + 21) j ∧ m (b + 21) j ≤ 20) {c on D E : Int} (h5 : m (b + 2) 5 = n5) (hn : 0 ≤ n5 ∧ n5 ≤ 8) (ho : zi on) (hc : c = acnt (fCd (m (b + 21)) on) n5) (hc0 : 0 < c) (hD : D = fKt (m (b + 21)) on (fDr (m b 1056) c) n5) (hE : E = fSd (m b 1056)) :
    zC G mX13_drawn 1 0 0 [zR b, zI c, zI on] S m (zDet (some (zI D)) S (zup m b 1056 E)) zNX := by
  rw [hD, hE]
  exact C_X13_drawn hb hL h5 hn ho hc hc0
theorem C_X13_morningBy {G : zG} {S : zS} {m : zMm} {b : Int} {A : zMm} (hb : zMod S b) (hy : yL m b A) (hk : zKV (aK (A 0 1023) (A 2))) {from_ : Int} (hf : zi from_) : zC G mX13_morningBy 3 0 0 [zR b, zI from_] S m (ySo S m b (some (zI (mOu ((aK (A 0 1023) (A 2)) 5) ((aK (A 0 1023) (A 2)) 0).toNat 320 (from_) (fun j => (aK (A 0 1023) (A 2)) (8 + 3 * (j / 2) + j % 2)) (fAll (aK (A 0 1023) (A 2)) ((aK (A 0 1023) (A 2)) 5)))))) zNX := by
  have hk0 := hk.1
  obtain ⟨Q, hQ⟩ : ∃ Q : Nat, (Q : Int) + 1 = (aK (A 0 1023) (A 2)) 0 := ⟨((aK (A 0 1023) (A 2)) 0 - 1).toNat, by omega⟩
  have hn9 : 0 ≤ ((aK (A 0 1023) (A 2)) 5) ∧ ((aK (A 0 1023) (A 2)) 5) ≤ 8 := by omega
  refine zC.of [zR b, zI from_, zU, zU, zU, zU, zU, zU, zU] (by decide) rfl (zEn1 (zcR _) (zEn1 (zcI _) (zEn0 (by simp)))) rfl ?_
  refine zT.rng hb.a1014 (fun zN => ?_)
  refine zT.aload_n 0 dX13_morningBy_0 rfl rfl ?_
  refine zT.iload_n 1 dX13_morningBy_1 rfl rfl ?_
  refine zT.putI dX13_morningBy_2 fX13_439 zs_1056 rfl (zMod.k hb) (j := 56) (by decide) rfl (by first | assumption | exact zq_i _ | exact zand_i _ _ | exact zor_i _ _ | exact zN _ | omega) ?_
  obtain ⟨m1, em1⟩ : ∃ z, z = zup m b 1056 from_ := ⟨_, rfl⟩
  rw [← em1]
  have h1 : zSc b m m1 := by rw [em1]; exact zSc.rf.up0 (by unfold zUw; omega)
  have y1 := hy.row (fun j => h1.row j)
  have s1 := y1.1.s
  have r1 := y1.1.r
  refine zT.aload_n 0 dX13_morningBy_5 rfl rfl ?_
  refine zT.callV (M' := mX13_allMinutes) (b := b) [] [] dX13_morningBy_6 kX13_343 rfl rfl (ci := 10) (r := (RX13, TX13, 62)) rfl (zMod.k hb) (C_X13_allMinutes hb (by first | assumption | exact zq_i _ | exact zand_i _ _ | exact zor_i _ _ | exact zN _ | omega)) (by decide) (k' := 0) (n' := 0) (by omega) (by omega) (by decide) (zdk (v := some (zI (ysum m1 b (m1 (b + 2) 5)))) ?_) (fun _ _ _ _ h => h.elim)
  show zT G _ _ _ _ [zI (ysum m1 b (m1 (b + 2) 5))] _ _ _ _ _ _
  obtain ⟨left, hlf⟩ : ∃ z, z = fAll (aK (A 0 1023) (A 2)) ((aK (A 0 1023) (A 2)) 5) := ⟨_, rfl⟩
  have hza : ysum m1 b (m1 (b + 2) 5) = left := by rw [hlf, s1, ysum_a y1.1 (by omega)]
  rw [hza]
  show zT G _ _ _ _ [zI left] _ _ _ _ _ _
  refine zT.istore_n 2 dX13_morningBy_9 rfl (by decide) (zpre1 rfl (zcI _)) ?_
  show zT G _ _ _ [zR b, zI from_, zI left, zU, zU, zU, zU, zU, zU] _ _ _ _ _ _ _
  refine zT.iconst dX13_morningBy_10 ?_
  refine zT.istore_n 3 dX13_morningBy_11 rfl (by decide) (zpre1 rfl (zcI _)) ?_
  show zT G _ _ _ [zR b, zI from_, zI left, zI 0, zU, zU, zU, zU, zU] _ _ _ _ _ _ _
  have L12 : ∀ (N : Nat) (mC : zMm) (k : Int), (zSc b m mC) → (mC b 1056 = from_) → (0 ≤ k) → (k ≤ 2 * ((aK (A 0 1023) (A 2)) 5)) → (∀ j, 0 ≤ j → j < k → mC (b + 21) j = (aK (A 0 1023) (A 2)) (8 + 3 * (j / 2) + j % 2)) → ((2 * ((aK (A 0 1023) (A 2)) 5) - k).toNat) < N → zT G mX13_morningBy 3 12 [zR b, zU, zI left, zI k, zU, zU, zU, zU, zU] [] S mC 0 0 (ySo S m b (some (zI (mOu ((aK (A 0 1023) (A 2)) 5) ((aK (A 0 1023) (A 2)) 0).toNat 320 (from_) (fun j => (aK (A 0 1023) (A 2)) (8 + 3 * (j / 2) + j % 2)) (fAll (aK (A 0 1023) (A 2)) ((aK (A 0 1023) (A 2)) 5)))))) zNX := by
    intro N
    induction N with
    | zero => intro mC k hz hsd k0 k1 hl hN; exact absurd hN (Nat.not_lt_zero _)
    | succ N ih12 =>
      intro mC k hz hsd k0 k1 hl hN
      have yC := hy.row (fun j => hz.row j)
      have sC := yC.1.s
      have rC := yC.1.r
      have zC := yC.2 0 (by omega) (by omega)
      refine zT.iload_n 3 dX13_morningBy_12 rfl rfl ?_
      refine zT.iconst dX13_morningBy_13 ?_
      refine zT.aload_n 0 dX13_morningBy_14 rfl rfl ?_
      refine zT.callV (M' := mX13_slices) (b := b) [] [zI 2, zI k] dX13_morningBy_15 kX13_271 rfl rfl (ci := 10) (r := (RX13, TX13, 62)) rfl (zMod.k hb) (C_X13_slices hb) (by decide) (k' := 0) (n' := 0) (by omega) (by omega) (by simp only [List.map, zcI, zcJ, zcR, List.sum_cons, List.sum_nil]; decide) (zdk (v := some (zI (mC (b + 2) (5)))) ?_) (fun _ _ _ _ h => h.elim)
      show zT G _ _ _ _ [zI (mC (b + 2) (5)), zI 2, zI k] _ _ _ _ _ _
      refine zT.imul dX13_morningBy_18 ?_
      refine zT.ic_ge (tgt := 44) dX13_morningBy_19 (by decide) (by first | assumption | exact zq_i _ | exact zand_i _ _ | exact zor_i _ _ | exact zN _ | omega) (by first | assumption | exact zq_i _ | exact zand_i _ _ | exact zor_i _ _ | exact zN _ | omega) (fun c19 => ?_) (fun c19 => ?_)
      · obtain ⟨R, hR9⟩ : ∃ z, z = mOu ((aK (A 0 1023) (A 2)) 5) ((aK (A 0 1023) (A 2)) 0).toNat 320 from_ (fun j => (aK (A 0 1023) (A 2)) (8 + 3 * (j / 2) + j % 2)) (fAll (aK (A 0 1023) (A 2)) ((aK (A 0 1023) (A 2)) 5)) := ⟨_, rfl⟩
        rw [← hR9]
        have eQ : ((aK (A 0 1023) (A 2)) 0).toNat = Q + 1 := by omega
        rw [eQ] at hR9
        have hLe : fLe ((aK (A 0 1023) (A 2)) 5) (mC (b + 21)) (fun j => (aK (A 0 1023) (A 2)) (8 + 3 * (j / 2) + j % 2)) := fun j a b => hl j a (by omega)
        have hO : fOk ((aK (A 0 1023) (A 2)) 5) (mC (b + 21)) (fAll (aK (A 0 1023) (A 2)) ((aK (A 0 1023) (A 2)) 5)) := by
                  refine ⟨fun j a b => ?_, ?_⟩
                  · rw [hLe j a b]
                    have e := hk.2.1 (j / 2) (by omega) (by omega)
                    show 0 ≤ (aK (A 0 1023) (A 2)) (8 + 3 * (j / 2) + j % 2) ∧ (aK (A 0 1023) (A 2)) (8 + 3 * (j / 2) + j % 2) ≤ 20
                    rcases (by omega : j % 2 = 0 ∨ j % 2 = 1) with q | q <;> rw [q] <;> omega
                  · rw [zs_to (by omega)]
                    exact zs_c (fun s a b => by
                      rw [hLe (2 * s) (by omega) (by omega), hLe (2 * s + 1) (by omega) (by omega)]
                      show _ = (aK (A 0 1023) (A 2)) (8 + 3 * (2 * s / 2) + 2 * s % 2) + (aK (A 0 1023) (A 2)) (8 + 3 * ((2 * s + 1) / 2) + (2 * s + 1) % 2)
                      rw [show 2 * s / 2 = s by omega, show 2 * s % 2 = 0 by omega, show (2 * s + 1) / 2 = s by omega, show (2 * s + 1) % 2 = 1 by omega])
        have hOb := hO.p (by omega)
        refine zT.iconst dX13_morningBy_44 ?_
        refine zT.istore_n 3 dX13_morningBy_45 rfl (by decide) (zpre1 rfl (zcI _)) ?_
        show zT G _ _ _ [zR b, zU, zI left, zI 0, zU, zU, zU, zU, zU] _ _ _ _ _ _ _
        have L46 : ∀ (N : Nat) (mA : zMm) (left : Int) (v : Int), (zSc b m mA) → (fOk ((aK (A 0 1023) (A 2)) 5) (mA (b + 21)) left) → (left ≤ 320) → (0 ≤ v) → (v + left ≤ 320) → (v + mOu ((aK (A 0 1023) (A 2)) 5) (Q + 1) 320 (mA b 1056) (mA (b + 21)) left = R) → left.toNat < N → zT G mX13_morningBy 3 46 [zR b, zU, zI left, zI v, zU, zU, zU, zU, zU] [] S mA 0 0 (ySo S m b (some (zI R))) zNX := by
          intro N
          induction N with
          | zero => intro mA left v hzA ho hl2 v0 v1 hv hN; exact absurd hN (Nat.not_lt_zero _)
          | succ N ih46 =>
            intro mA left v hzA ho hl2 v0 v1 hv hN
            have yA := hy.row (fun j => hzA.row j)
            have sA := yA.1.s
            have rA := yA.1.r
            have zA := yA.2 0 (by omega) (by omega)
            have hlb := ho.p (by omega)
            obtain ⟨T, hT0⟩ : ∃ z, z = mIn ((aK (A 0 1023) (A 2)) 5) (Q + 1) (mA b 1056) (mA (b + 21)) left 0 := ⟨_, rfl⟩
            refine zT.iload_n 2 dX13_morningBy_46 rfl rfl ?_
            refine zT.if_le (tgt := 221) dX13_morningBy_47 (by decide) (by first | assumption | exact zq_i _ | exact zand_i _ _ | exact zor_i _ _ | exact zN _ | omega) (fun c47 => ?_) (fun c47 => ?_)
            · refine zT.iload_n 3 dX13_morningBy_221 rfl rfl ?_
              refine zT.iret dX13_morningBy_222 rfl ?_
              exact ⟨by rw [← hv, mOu_0 (by omega), Int.add_zero], rfl, hzA⟩
            · refine zT.iconst dX13_morningBy_50 ?_
              refine zT.istore 4 dX13_morningBy_51 (by decide) (zpre1 rfl (zcI _)) ?_
              show zT G _ _ _ [zR b, zU, zI left, zI v, zI 0, zU, zU, zU, zU] _ _ _ _ _ _ _
              refine zT.iconst dX13_morningBy_53 ?_
              refine zT.istore 5 dX13_morningBy_54 (by decide) (zpre1 rfl (zcI _)) ?_
              show zT G _ _ _ [zR b, zU, zI left, zI v, zI 0, zI 0, zU, zU, zU] _ _ _ _ _ _ _
              have L56 : ∀ (N : Nat) (mB : zMm) (l : Int) (on : Int) (p : Int), (zSc b m mB) → (fOk ((aK (A 0 1023) (A 2)) 5) (mB (b + 21)) l) → (l ≤ left) → (zi on) → (0 ≤ p) → (p ≤ (Q : Int) + 1) → (mIn ((aK (A 0 1023) (A 2)) 5) (Q + 1 - p.toNat) (mB b 1056) (mB (b + 21)) l on = T) → (((Q : Int) + 1 - p).toNat) < N → zT G mX13_morningBy 3 56 [zR b, zU, zI l, zI v, zI on, zI p, zU, zU, zU] [] S mB 0 0 (ySo S m b (some (zI R))) zNX := by
                intro N
                induction N with
                | zero => intro mB l on p hzB hk1 hl1 hon p0 p1 hT hN; exact absurd hN (Nat.not_lt_zero _)
                | succ N ih56 =>
                  intro mB l on p hzB hk1 hl1 hon p0 p1 hT hN
                  have yB := hy.row (fun j => hzB.row j)
                  have sB := yB.1.s
                  have rB := yB.1.r
                  have zB := yB.2 0 (by omega) (by omega)
                  have hlb2 := hk1.p (by omega)
                  refine zT.iload 5 dX13_morningBy_56 rfl ?_
                  refine zT.aload_n 0 dX13_morningBy_58 rfl rfl ?_
                  refine zT.getF dX13_morningBy_59 fX13_13 rfl (zMod.k hb) (j := 14) (by decide) rfl (zMod.f1014 hb) ?_
                  refine zT.iconst dX13_morningBy_62 ?_
                  refine zT.iald dX13_morningBy_63 (zMod.a1014 hb) (by first | assumption | exact zq_i _ | exact zand_i _ _ | exact zor_i _ _ | exact zN _ | omega) (by rw [(zMod.n1014 hb)]; first | assumption | exact zq_i _ | exact zand_i _ _ | exact zor_i _ _ | exact zN _ | omega) (fun z63 => ?_)
                  refine zT.ic_ge (tgt := 215) dX13_morningBy_64 (by decide) (by first | assumption | exact zq_i _ | exact zand_i _ _ | exact zor_i _ _ | exact zN _ | omega) (by first | assumption | exact zq_i _ | exact zand_i _ _ | exact zor_i _ _ | exact zN _ | omega) (fun c64 => ?_) (fun c64 => ?_)
                  · have eT : (mB b 1056, mB (b + 21), l) = T := by
                      rw [← hT, show Q + 1 - p.toNat = 0 by omega]
                      rfl
                    have hlt : l < left := by have q := mIn_l (q := Q) (sd := mA b 1056) (by omega) ho (by omega); rw [← hT0, ← eT] at q; exact q
                    have hv2 : v + 1 + mOu ((aK (A 0 1023) (A 2)) 5) (Q + 1) 320 (mB b 1056) (mB (b + 21)) l = R := by rw [← hv, mOu_1 (by omega) ho (by omega) (by omega), ← hT0, ← eT]; exact Int.add_assoc v 1 _
                    refine zT.iinc 3 dX13_morningBy_215 rfl (by decide) (zpre1 rfl (zcI _)) ?_
                    show zT G _ _ _ [zR b, zU, zI l, zI (v + 1), zI on, zI p, zU, zU, zU] _ _ _ _ _ _ _
                    refine zT.goto (tgt := 46) dX13_morningBy_218 (by decide) ?_
                    refine zT.loc (V' := [zR b, zU, zI l, zI (v + 1), zU, zU, zU, zU, zU]) ?_ ⟨Or.inr rfl, Or.inr rfl, Or.inr rfl, Or.inr rfl, Or.inl rfl, Or.inl rfl, Or.inr rfl, Or.inr rfl, Or.inr rfl, trivial⟩
                    exact ih46 _ _ _ (by exact hzB) (by exact hk1) (by omega) (by omega) (by omega) (by exact hv2) (by omega)
                  · refine zT.iconst dX13_morningBy_67 ?_
                    refine zT.istore 6 dX13_morningBy_68 (by decide) (zpre1 rfl (zcI _)) ?_
                    show zT G _ _ _ [zR b, zU, zI l, zI v, zI on, zI p, zI 0, zU, zU] _ _ _ _ _ _ _
                    refine zT.iconst dX13_morningBy_70 ?_
                    refine zT.istore 7 dX13_morningBy_71 (by decide) (zpre1 rfl (zcI _)) ?_
                    show zT G _ _ _ [zR b, zU, zI l, zI v, zI on, zI p, zI 0, zI 0, zU] _ _ _ _ _ _ _
                    have L73 : ∀ (N : Nat) (c : Int) (s : Int), (0 ≤ s) → (s ≤ ((aK (A 0 1023) (A 2)) 5)) → (c = acnt (fCd (mB (b + 21)) on) s) → ((((aK (A 0 1023) (A 2)) 5) - s).toNat) < N → zT G mX13_morningBy 3 73 [zR b, zU, zI l, zI v, zI on, zI p, zI c, zI s, zU] [] S mB 0 0 (ySo S m b (some (zI R))) zNX := by
                      intro N
                      induction N with
                      | zero => intro c s s0 s1 hc hN; exact absurd hN (Nat.not_lt_zero _)
                      | succ N ih73 =>
                        intro c s s0 s1 hc hN
                        have hvb := acnt_b (P := fCd (mB (b + 21)) on) s0
                        rw [← hc] at hvb
                        refine zT.iload 7 dX13_morningBy_73 rfl ?_
                        refine zT.aload_n 0 dX13_morningBy_75 rfl rfl ?_
                        refine zT.callV (M' := mX13_slices) (b := b) [] [zI s] dX13_morningBy_76 kX13_271 rfl rfl (ci := 10) (r := (RX13, TX13, 62)) rfl (zMod.k hb) (C_X13_slices hb) (by decide) (k' := 0) (n' := 0) (by omega) (by omega) (by simp only [List.map, zcI, zcJ, zcR, List.sum_cons, List.sum_nil]; decide) (zdk (v := some (zI (mB (b + 2) (5)))) ?_) (fun _ _ _ _ h => h.elim)
                        show zT G _ _ _ _ [zI (mB (b + 2) (5)), zI s] _ _ _ _ _ _
                        refine zT.ic_ge (tgt := 110) dX13_morningBy_79 (by decide) (by first | assumption | exact zq_i _ | exact zand_i _ _ | exact zor_i _ _ | exact zN _ | omega) (by first | assumption | exact zq_i _ | exact zand_i _ _ | exact zor_i _ _ | exact zN _ | omega) (fun c79 => ?_) (fun c79 => ?_)
                        · refine zT.iload 6 dX13_morningBy_110 rfl ?_
                          refine zT.if_ne (tgt := 118) dX13_morningBy_112 (by decide) (by first | assumption | exact zq_i _ | exact zand_i _ _ | exact zor_i _ _ | exact zN _ | omega) (fun c112 => ?_) (fun c112 => ?_)
                          · refine zT.aload_n 0 dX13_morningBy_118 rfl rfl ?_
                            refine zT.iload 6 dX13_morningBy_119 rfl ?_
                            have hcc : c = acnt (fCd (mB (b + 21)) on) ((aK (A 0 1023) (A 2)) 5) := by rw [hc, show s = ((aK (A 0 1023) (A 2)) 5) by omega]
                            obtain ⟨D, hD⟩ : ∃ z, z = fKt (mB (b + 21)) on (fDr (mB b 1056) c) ((aK (A 0 1023) (A 2)) 5) := ⟨_, rfl⟩
                            obtain ⟨E, hE⟩ : ∃ z, z = fSd (mB b 1056) := ⟨_, rfl⟩
                            refine zT.iload 4 dX13_morningBy_121 rfl ?_
                            refine zT.callV (M' := mX13_drawn) (b := b) [zI c, zI on] [] dX13_morningBy_123 kX13_446 rfl rfl (ci := 10) (r := (RX13, TX13, 62)) rfl (zMod.k hb) (C_X13_drawn2 hb hk1.1 sB hn9 hon hcc (by omega) hD hE) (by decide) (k' := 0) (n' := 0) (by omega) (by omega) (by decide) (zdk (v := some (zI D)) ?_) (fun _ _ _ _ h => h.elim)
                            show zT G _ _ _ _ [zI D] _ _ _ _ _ _
                            obtain ⟨m2, em2⟩ : ∃ z, z = zup mB b 1056 E := ⟨_, rfl⟩
                            rw [← em2]
                            refine zT.istore 7 dX13_morningBy_126 (by decide) (zpre1 rfl (zcI _)) ?_
                            show zT G _ _ _ [zR b, zU, zI l, zI v, zI on, zI p, zI c, zI D, zU] _ _ _ _ _ _ _
                            have hcb := acnt_b (P := fCd (mB (b + 21)) on) (k := ((aK (A 0 1023) (A 2)) 5)) (by omega)
                            have hfd := fDr_b (s := mB b 1056) (n := c) (by omega)
                            have hkt := fKt_i (L := mB (b + 21)) (on := on) (n := ((aK (A 0 1023) (A 2)) 5)) (k := fDr (mB b 1056) c) (by omega) hfd.1 (by omega)
                            rw [← hD] at hkt
                            obtain ⟨d0, d1, d2⟩ := hkt
                            have ha0 := hk1.1 (2 * D) (by omega) (by omega)
                            have ha1 := hk1.1 (2 * D + 1) (by omega) (by omega)
                            have hde := fDr_b (s := E) (n := 2) (by omega)
                            have ds := d2.2
                            refine zT.aload_n 0 dX13_morningBy_128 rfl rfl ?_
                            refine zT.getF dX13_morningBy_129 fX13_76 rfl (zMod.k hb) (j := 39) (by decide) rfl (zMod.f1039 hb) ?_
                            refine zT.iconst dX13_morningBy_132 ?_
                            refine zT.iload 7 dX13_morningBy_133 rfl ?_
                            refine zT.imul dX13_morningBy_135 ?_
                            refine zT.iald dX13_morningBy_136 (zMod.a1039 hb) (by first | assumption | exact zq_i _ | exact zand_i _ _ | exact zor_i _ _ | exact zN _ | omega) (by rw [(zMod.n1039 hb)]; first | assumption | exact zq_i _ | exact zand_i _ _ | exact zor_i _ _ | exact zN _ | omega) (fun z136 => ?_)
                            have r136 : m2 (b + 21) (2 * D) = mB (b + 21) (2 * D) := by rw [em2, zup_ne (by omega)]
                            rw [r136] at z136 ⊢
                            refine zT.if_le (tgt := 162) dX13_morningBy_137 (by decide) (by first | assumption | exact zq_i _ | exact zand_i _ _ | exact zor_i _ _ | exact zN _ | omega) (fun c137 => ?_) (fun c137 => ?_)
                            · refine zT.aload_n 0 dX13_morningBy_162 rfl rfl ?_
                              refine zT.getF dX13_morningBy_163 fX13_76 rfl (zMod.k hb) (j := 39) (by decide) rfl (zMod.f1039 hb) ?_
                              refine zT.iconst dX13_morningBy_166 ?_
                              refine zT.iload 7 dX13_morningBy_167 rfl ?_
                              refine zT.imul dX13_morningBy_169 ?_
                              refine zT.iald dX13_morningBy_170 (zMod.a1039 hb) (by first | assumption | exact zq_i _ | exact zand_i _ _ | exact zor_i _ _ | exact zN _ | omega) (by rw [(zMod.n1039 hb)]; first | assumption | exact zq_i _ | exact zand_i _ _ | exact zor_i _ _ | exact zN _ | omega) (fun z170 => ?_)
                              have r170 : m2 (b + 21) (2 * D) = mB (b + 21) (2 * D) := by rw [em2, zup_ne (by omega)]
                              rw [r170] at z170 ⊢
                              refine zT.if_le (tgt := 178) dX13_morningBy_171 (by decide) (by first | assumption | exact zq_i _ | exact zand_i _ _ | exact zor_i _ _ | exact zN _ | omega) (fun c171 => ?_) (fun c171 => ?_)
                              · refine zT.iconst dX13_morningBy_178 ?_
                                refine zT.istore 8 dX13_morningBy_179 (by decide) (zpre1 rfl (zcI _)) ?_
                                show zT G _ _ _ [zR b, zU, zI l, zI v, zI on, zI p, zI c, zI D, zI 1] _ _ _ _ _ _ _
                                refine zT.aload_n 0 dX13_morningBy_181 rfl rfl ?_
                                refine zT.getF dX13_morningBy_182 fX13_76 rfl (zMod.k hb) (j := 39) (by decide) rfl (zMod.f1039 hb) ?_
                                refine zT.iconst dX13_morningBy_185 ?_
                                refine zT.iload 7 dX13_morningBy_186 rfl ?_
                                refine zT.imul dX13_morningBy_188 ?_
                                refine zT.iload 8 dX13_morningBy_189 rfl ?_
                                refine zT.iadd dX13_morningBy_191 ?_
                                refine zT.dup2 dX13_morningBy_192 (zcI _) (zcR _) ?_
                                have hk9 := hk1.1 (2 * D + (1)) (by omega) (by omega)
                                refine zT.iald dX13_morningBy_193 (zMod.a1039 hb) (by first | assumption | exact zq_i _ | exact zand_i _ _ | exact zor_i _ _ | exact zN _ | omega) (by rw [(zMod.n1039 hb)]; first | assumption | exact zq_i _ | exact zand_i _ _ | exact zor_i _ _ | exact zN _ | omega) (fun z193 => ?_)
                                have r193 : m2 (b + 21) ((2 * D) + 1) = mB (b + 21) ((2 * D) + 1) := by rw [em2, zup_ne (by omega)]
                                rw [r193] at z193 ⊢
                                refine zT.iconst dX13_morningBy_194 ?_
                                refine zT.isub dX13_morningBy_195 ?_
                                refine zT.iast dX13_morningBy_196 (zMod.a1039 hb) (by first | assumption | exact zq_i _ | exact zand_i _ _ | exact zor_i _ _ | exact zN _ | omega) (by rw [(zMod.n1039 hb)]; first | assumption | exact zq_i _ | exact zand_i _ _ | exact zor_i _ _ | exact zN _ | omega) (by first | assumption | exact zq_i _ | exact zand_i _ _ | exact zor_i _ _ | exact zN _ | omega) ?_
                                obtain ⟨m3, em3⟩ : ∃ z, z = zup m2 (b + 21) ((2 * D) + 1) ((mB (b + 21) ((2 * D) + 1)) - 1) := ⟨_, rfl⟩
                                rw [← em3]
                                have hse : 1 = fSe (mB (b + 21)) E D := by unfold fSe; first | (exfalso; omega) | (rw [zite_t (by omega)]; done) | (rw [zite_f (by omega), zite_t (by omega)]) | (rw [zite_f (by omega), zite_f (by omega)])
                                have hss : m3 b 1056 = fSs (mB (b + 21)) E D := by
                                  unfold fSs
                                  first
                                    | (exfalso; omega)
                                    | (rw [zite_f (by omega), em3, zup_ne (by omega), em2, zup_at])
                                have hld : m3 (b + 21) = fLd (mB (b + 21)) (2 * D + (1)) := by
                                  funext j
                                  unfold fLd
                                  by_cases q : j = 2 * D + (1)
                                  · rw [zite_t q, q, em3]
                                    first | exact zup_at | (rw [Int.add_zero]; exact zup_at)
                                  · rw [zite_f q, em3, zup_ne (fun z => q (by omega)), em2, zup_ne (by omega)]
                                have h_m2 : zSc b m m2 := by rw [em2]; exact hzB.up0 (by unfold zUw; omega)
                                have h_m3 : zSc b m m3 := by rw [em3]; exact h_m2.up (by omega) (by unfold zUw; omega)
                                have hz9 : zSc b m m3 := h_m3
                                refine zT.iinc 2 dX13_morningBy_197 rfl (by decide) (zpreU rfl) ?_
                                show zT G _ _ _ [zR b, zU, zI (l + (-1)), zI v, zI on, zI p, zI c, zI D, zI 1] _ _ _ _ _ _ _
                                refine zT.iload 4 dX13_morningBy_200 rfl ?_
                                refine zT.iconst dX13_morningBy_202 ?_
                                refine zT.iload 7 dX13_morningBy_203 rfl ?_
                                refine zT.ishl dX13_morningBy_205 (by first | assumption | exact zq_i _ | exact zand_i _ _ | exact zor_i _ _ | exact zN _ | omega) (by first | assumption | exact zq_i _ | exact zand_i _ _ | exact zor_i _ _ | exact zN _ | omega) ?_
                                refine zT.ior dX13_morningBy_206 ?_
                                refine zT.istore 4 dX13_morningBy_207 (by decide) (zpre1 rfl (zcI _)) ?_
                                show zT G _ _ _ [zR b, zU, zI (l + (-1)), zI v, zI (zor on (1 * 2 ^ D.toNat)), zI p, zI c, zI D, zI 1] _ _ _ _ _ _ _
                                have hp9 : 0 < mB (b + 21) (2 * D + (1)) := by have q := fSe_p (sd := E) d2 (by omega) (by omega); rw [← hse] at q; exact q
                                have hk2 : fOk ((aK (A 0 1023) (A 2)) 5) (m3 (b + 21)) (l + (-1)) := by rw [hld]; exact hk1.ld (by omega) (by omega) hp9
                                have hTn : mIn ((aK (A 0 1023) (A 2)) 5) (Q + 1 - (p + 1).toNat) (m3 b 1056) (m3 (b + 21)) (l + (-1)) (zor on (1 * 2 ^ D.toNat)) = T := by
                                  rw [show l + (-1) = l - 1 by omega, hld, hss, ← hT, show Q + 1 - p.toNat = (Q + 1 - (p + 1).toNat) + 1 by omega, mIn_s (s := D) (c := 2 * D + (1)) (by rw [← hcc]; omega) (by rw [← hcc]; exact hD) (by rw [hse, hE]), ← hE]
                                refine zT.iinc 5 dX13_morningBy_209 rfl (by decide) (zpre1 rfl (zcI _)) ?_
                                show zT G _ _ _ [zR b, zU, zI (l + (-1)), zI v, zI (zor on (1 * 2 ^ D.toNat)), zI (p + 1), zI c, zI D, zI 1] _ _ _ _ _ _ _
                                refine zT.goto (tgt := 56) dX13_morningBy_212 (by decide) ?_
                                refine zT.loc (V' := [zR b, zU, zI (l + (-1)), zI v, zI (zor on (1 * 2 ^ D.toNat)), zI (p + 1), zU, zU, zU]) ?_ ⟨Or.inr rfl, Or.inr rfl, Or.inr rfl, Or.inr rfl, Or.inr rfl, Or.inr rfl, Or.inl rfl, Or.inl rfl, Or.inl rfl, trivial⟩
                                exact ih56 _ _ _ _ (by exact hz9) (by exact hk2) (by omega) (by first | exact hon | exact zor_i _ _) (by omega) (by omega) (by exact hTn) (by omega)
                              · refine zT.iconst dX13_morningBy_174 ?_
                                refine zT.goto (tgt := 179) dX13_morningBy_175 (by decide) ?_
                                refine zT.istore 8 dX13_morningBy_179 (by decide) (zpre1 rfl (zcI _)) ?_
                                show zT G _ _ _ [zR b, zU, zI l, zI v, zI on, zI p, zI c, zI D, zI 0] _ _ _ _ _ _ _
                                refine zT.aload_n 0 dX13_morningBy_181 rfl rfl ?_
                                refine zT.getF dX13_morningBy_182 fX13_76 rfl (zMod.k hb) (j := 39) (by decide) rfl (zMod.f1039 hb) ?_
                                refine zT.iconst dX13_morningBy_185 ?_
                                refine zT.iload 7 dX13_morningBy_186 rfl ?_
                                refine zT.imul dX13_morningBy_188 ?_
                                refine zT.iload 8 dX13_morningBy_189 rfl ?_
                                refine zT.iadd dX13_morningBy_191 ?_
                                refine zT.dup2 dX13_morningBy_192 (zcI _) (zcR _) ?_
                                have hk9 := hk1.1 (2 * D + (0)) (by omega) (by omega)
                                refine zT.iald dX13_morningBy_193 (zMod.a1039 hb) (by first | assumption | exact zq_i _ | exact zand_i _ _ | exact zor_i _ _ | exact zN _ | omega) (by rw [(zMod.n1039 hb)]; first | assumption | exact zq_i _ | exact zand_i _ _ | exact zor_i _ _ | exact zN _ | omega) (fun z193 => ?_)
                                have r193 : m2 (b + 21) ((2 * D) + 0) = mB (b + 21) ((2 * D) + 0) := by rw [em2, zup_ne (by omega)]
                                rw [r193] at z193 ⊢
                                refine zT.iconst dX13_morningBy_194 ?_
                                refine zT.isub dX13_morningBy_195 ?_
                                refine zT.iast dX13_morningBy_196 (zMod.a1039 hb) (by first | assumption | exact zq_i _ | exact zand_i _ _ | exact zor_i _ _ | exact zN _ | omega) (by rw [(zMod.n1039 hb)]; first | assumption | exact zq_i _ | exact zand_i _ _ | exact zor_i _ _ | exact zN _ | omega) (by first | assumption | exact zq_i _ | exact zand_i _ _ | exact zor_i _ _ | exact zN _ | omega) ?_
                                obtain ⟨m4, em4⟩ : ∃ z, z = zup m2 (b + 21) ((2 * D) + 0) ((mB (b + 21) ((2 * D) + 0)) - 1) := ⟨_, rfl⟩
                                rw [← em4]
                                have hse : 0 = fSe (mB (b + 21)) E D := by unfold fSe; first | (exfalso; omega) | (rw [zite_t (by omega)]; done) | (rw [zite_f (by omega), zite_t (by omega)]) | (rw [zite_f (by omega), zite_f (by omega)])
                                have hss : m4 b 1056 = fSs (mB (b + 21)) E D := by
                                  unfold fSs
                                  first
                                    | (exfalso; omega)
                                    | (rw [zite_f (by omega), em4, zup_ne (by omega), em2, zup_at])
                                have hld : m4 (b + 21) = fLd (mB (b + 21)) (2 * D + (0)) := by
                                  funext j
                                  unfold fLd
                                  by_cases q : j = 2 * D + (0)
                                  · rw [zite_t q, q, em4]
                                    first | exact zup_at | (rw [Int.add_zero]; exact zup_at)
                                  · rw [zite_f q, em4, zup_ne (fun z => q (by omega)), em2, zup_ne (by omega)]
                                have h_m2 : zSc b m m2 := by rw [em2]; exact hzB.up0 (by unfold zUw; omega)
                                have h_m4 : zSc b m m4 := by rw [em4]; exact h_m2.up (by omega) (by unfold zUw; omega)
                                have hz9 : zSc b m m4 := h_m4
                                refine zT.iinc 2 dX13_morningBy_197 rfl (by decide) (zpreU rfl) ?_
                                show zT G _ _ _ [zR b, zU, zI (l + (-1)), zI v, zI on, zI p, zI c, zI D, zI 0] _ _ _ _ _ _ _
                                refine zT.iload 4 dX13_morningBy_200 rfl ?_
                                refine zT.iconst dX13_morningBy_202 ?_
                                refine zT.iload 7 dX13_morningBy_203 rfl ?_
                                refine zT.ishl dX13_morningBy_205 (by first | assumption | exact zq_i _ | exact zand_i _ _ | exact zor_i _ _ | exact zN _ | omega) (by first | assumption | exact zq_i _ | exact zand_i _ _ | exact zor_i _ _ | exact zN _ | omega) ?_
                                refine zT.ior dX13_morningBy_206 ?_
                                refine zT.istore 4 dX13_morningBy_207 (by decide) (zpre1 rfl (zcI _)) ?_
                                show zT G _ _ _ [zR b, zU, zI (l + (-1)), zI v, zI (zor on (1 * 2 ^ D.toNat)), zI p, zI c, zI D, zI 0] _ _ _ _ _ _ _
                                have hp9 : 0 < mB (b + 21) (2 * D + (0)) := by have q := fSe_p (sd := E) d2 (by omega) (by omega); rw [← hse] at q; exact q
                                have hk2 : fOk ((aK (A 0 1023) (A 2)) 5) (m4 (b + 21)) (l + (-1)) := by rw [hld]; exact hk1.ld (by omega) (by omega) hp9
                                have hTn : mIn ((aK (A 0 1023) (A 2)) 5) (Q + 1 - (p + 1).toNat) (m4 b 1056) (m4 (b + 21)) (l + (-1)) (zor on (1 * 2 ^ D.toNat)) = T := by
                                  rw [show l + (-1) = l - 1 by omega, hld, hss, ← hT, show Q + 1 - p.toNat = (Q + 1 - (p + 1).toNat) + 1 by omega, mIn_s (s := D) (c := 2 * D + (0)) (by rw [← hcc]; omega) (by rw [← hcc]; exact hD) (by rw [hse, hE]), ← hE]
                                refine zT.iinc 5 dX13_morningBy_209 rfl (by decide) (zpre1 rfl (zcI _)) ?_
                                show zT G _ _ _ [zR b, zU, zI (l + (-1)), zI v, zI (zor on (1 * 2 ^ D.toNat)), zI (p + 1), zI c, zI D, zI 0] _ _ _ _ _ _ _
                                refine zT.goto (tgt := 56) dX13_morningBy_212 (by decide) ?_
                                refine zT.loc (V' := [zR b, zU, zI (l + (-1)), zI v, zI (zor on (1 * 2 ^ D.toNat)), zI (p + 1), zU, zU, zU]) ?_ ⟨Or.inr rfl, Or.inr rfl, Or.inr rfl, Or.inr rfl, Or.inr rfl, Or.inr rfl, Or.inl rfl, Or.inl rfl, Or.inl rfl, trivial⟩
                                exact ih56 _ _ _ _ (by exact hz9) (by exact hk2) (by omega) (by first | exact hon | exact zor_i _ _) (by omega) (by omega) (by exact hTn) (by omega)
                            · refine zT.aload_n 0 dX13_morningBy_140 rfl rfl ?_
                              refine zT.getF dX13_morningBy_141 fX13_76 rfl (zMod.k hb) (j := 39) (by decide) rfl (zMod.f1039 hb) ?_
                              refine zT.iconst dX13_morningBy_144 ?_
                              refine zT.iload 7 dX13_morningBy_145 rfl ?_
                              refine zT.imul dX13_morningBy_147 ?_
                              refine zT.iconst dX13_morningBy_148 ?_
                              refine zT.iadd dX13_morningBy_149 ?_
                              refine zT.iald dX13_morningBy_150 (zMod.a1039 hb) (by first | assumption | exact zq_i _ | exact zand_i _ _ | exact zor_i _ _ | exact zN _ | omega) (by rw [(zMod.n1039 hb)]; first | assumption | exact zq_i _ | exact zand_i _ _ | exact zor_i _ _ | exact zN _ | omega) (fun z150 => ?_)
                              have r150 : m2 (b + 21) ((2 * D) + 1) = mB (b + 21) ((2 * D) + 1) := by rw [em2, zup_ne (by omega)]
                              rw [r150] at z150 ⊢
                              refine zT.if_le (tgt := 162) dX13_morningBy_151 (by decide) (by first | assumption | exact zq_i _ | exact zand_i _ _ | exact zor_i _ _ | exact zN _ | omega) (fun c151 => ?_) (fun c151 => ?_)
                              · refine zT.aload_n 0 dX13_morningBy_162 rfl rfl ?_
                                refine zT.getF dX13_morningBy_163 fX13_76 rfl (zMod.k hb) (j := 39) (by decide) rfl (zMod.f1039 hb) ?_
                                refine zT.iconst dX13_morningBy_166 ?_
                                refine zT.iload 7 dX13_morningBy_167 rfl ?_
                                refine zT.imul dX13_morningBy_169 ?_
                                refine zT.iald dX13_morningBy_170 (zMod.a1039 hb) (by first | assumption | exact zq_i _ | exact zand_i _ _ | exact zor_i _ _ | exact zN _ | omega) (by rw [(zMod.n1039 hb)]; first | assumption | exact zq_i _ | exact zand_i _ _ | exact zor_i _ _ | exact zN _ | omega) (fun z170 => ?_)
                                have r170 : m2 (b + 21) (2 * D) = mB (b + 21) (2 * D) := by rw [em2, zup_ne (by omega)]
                                rw [r170] at z170 ⊢
                                refine zT.if_le (tgt := 178) dX13_morningBy_171 (by decide) (by first | assumption | exact zq_i _ | exact zand_i _ _ | exact zor_i _ _ | exact zN _ | omega) (fun c171 => ?_) (fun c171 => ?_)
                                · refine zT.iconst dX13_morningBy_178 ?_
                                  refine zT.istore 8 dX13_morningBy_179 (by decide) (zpre1 rfl (zcI _)) ?_
                                  show zT G _ _ _ [zR b, zU, zI l, zI v, zI on, zI p, zI c, zI D, zI 1] _ _ _ _ _ _ _
                                  refine zT.aload_n 0 dX13_morningBy_181 rfl rfl ?_
                                  refine zT.getF dX13_morningBy_182 fX13_76 rfl (zMod.k hb) (j := 39) (by decide) rfl (zMod.f1039 hb) ?_
                                  refine zT.iconst dX13_morningBy_185 ?_
                                  refine zT.iload 7 dX13_morningBy_186 rfl ?_
                                  refine zT.imul dX13_morningBy_188 ?_
                                  refine zT.iload 8 dX13_morningBy_189 rfl ?_
                                  refine zT.iadd dX13_morningBy_191 ?_
                                  refine zT.dup2 dX13_morningBy_192 (zcI _) (zcR _) ?_
                                  have hk9 := hk1.1 (2 * D + (1)) (by omega) (by omega)
                                  refine zT.iald dX13_morningBy_193 (zMod.a1039 hb) (by first | assumption | exact zq_i _ | exact zand_i _ _ | exact zor_i _ _ | exact zN _ | omega) (by rw [(zMod.n1039 hb)]; first | assumption | exact zq_i _ | exact zand_i _ _ | exact zor_i _ _ | exact zN _ | omega) (fun z193 => ?_)
                                  have r193 : m2 (b + 21) ((2 * D) + 1) = mB (b + 21) ((2 * D) + 1) := by rw [em2, zup_ne (by omega)]
                                  rw [r193] at z193 ⊢
                                  refine zT.iconst dX13_morningBy_194 ?_
                                  refine zT.isub dX13_morningBy_195 ?_
                                  refine zT.iast dX13_morningBy_196 (zMod.a1039 hb) (by first | assumption | exact zq_i _ | exact zand_i _ _ | exact zor_i _ _ | exact zN _ | omega) (by rw [(zMod.n1039 hb)]; first | assumption | exact zq_i _ | exact zand_i _ _ | exact zor_i _ _ | exact zN _ | omega) (by first | assumption | exact zq_i _ | exact zand_i _ _ | exact zor_i _ _ | exact zN _ | omega) ?_
                                  obtain ⟨m5, em5⟩ : ∃ z, z = zup m2 (b + 21) ((2 * D) + 1) ((mB (b + 21) ((2 * D) + 1)) - 1) := ⟨_, rfl⟩
                                  rw [← em5]
                                  have hse : 1 = fSe (mB (b + 21)) E D := by unfold fSe; first | (exfalso; omega) | (rw [zite_t (by omega)]; done) | (rw [zite_f (by omega), zite_t (by omega)]) | (rw [zite_f (by omega), zite_f (by omega)])
                                  have hss : m5 b 1056 = fSs (mB (b + 21)) E D := by
                                    unfold fSs
                                    first
                                      | (exfalso; omega)
                                      | (rw [zite_f (by omega), em5, zup_ne (by omega), em2, zup_at])
                                  have hld : m5 (b + 21) = fLd (mB (b + 21)) (2 * D + (1)) := by
                                    funext j
                                    unfold fLd
                                    by_cases q : j = 2 * D + (1)
                                    · rw [zite_t q, q, em5]
                                      first | exact zup_at | (rw [Int.add_zero]; exact zup_at)
                                    · rw [zite_f q, em5, zup_ne (fun z => q (by omega)), em2, zup_ne (by omega)]
                                  have h_m2 : zSc b m m2 := by rw [em2]; exact hzB.up0 (by unfold zUw; omega)
                                  have h_m5 : zSc b m m5 := by rw [em5]; exact h_m2.up (by omega) (by unfold zUw; omega)
                                  have hz9 : zSc b m m5 := h_m5
                                  refine zT.iinc 2 dX13_morningBy_197 rfl (by decide) (zpreU rfl) ?_
                                  show zT G _ _ _ [zR b, zU, zI (l + (-1)), zI v, zI on, zI p, zI c, zI D, zI 1] _ _ _ _ _ _ _
                                  refine zT.iload 4 dX13_morningBy_200 rfl ?_
                                  refine zT.iconst dX13_morningBy_202 ?_
                                  refine zT.iload 7 dX13_morningBy_203 rfl ?_
                                  refine zT.ishl dX13_morningBy_205 (by first | assumption | exact zq_i _ | exact zand_i _ _ | exact zor_i _ _ | exact zN _ | omega) (by first | assumption | exact zq_i _ | exact zand_i _ _ | exact zor_i _ _ | exact zN _ | omega) ?_
                                  refine zT.ior dX13_morningBy_206 ?_
                                  refine zT.istore 4 dX13_morningBy_207 (by decide) (zpre1 rfl (zcI _)) ?_
                                  show zT G _ _ _ [zR b, zU, zI (l + (-1)), zI v, zI (zor on (1 * 2 ^ D.toNat)), zI p, zI c, zI D, zI 1] _ _ _ _ _ _ _
                                  have hp9 : 0 < mB (b + 21) (2 * D + (1)) := by have q := fSe_p (sd := E) d2 (by omega) (by omega); rw [← hse] at q; exact q
                                  have hk2 : fOk ((aK (A 0 1023) (A 2)) 5) (m5 (b + 21)) (l + (-1)) := by rw [hld]; exact hk1.ld (by omega) (by omega) hp9
                                  have hTn : mIn ((aK (A 0 1023) (A 2)) 5) (Q + 1 - (p + 1).toNat) (m5 b 1056) (m5 (b + 21)) (l + (-1)) (zor on (1 * 2 ^ D.toNat)) = T := by
                                    rw [show l + (-1) = l - 1 by omega, hld, hss, ← hT, show Q + 1 - p.toNat = (Q + 1 - (p + 1).toNat) + 1 by omega, mIn_s (s := D) (c := 2 * D + (1)) (by rw [← hcc]; omega) (by rw [← hcc]; exact hD) (by rw [hse, hE]), ← hE]
                                  refine zT.iinc 5 dX13_morningBy_209 rfl (by decide) (zpre1 rfl (zcI _)) ?_
                                  show zT G _ _ _ [zR b, zU, zI (l + (-1)), zI v, zI (zor on (1 * 2 ^ D.toNat)), zI (p + 1), zI c, zI D, zI 1] _ _ _ _ _ _ _
                                  refine zT.goto (tgt := 56) dX13_morningBy_212 (by decide) ?_
                                  refine zT.loc (V' := [zR b, zU, zI (l + (-1)), zI v, zI (zor on (1 * 2 ^ D.toNat)), zI (p + 1), zU, zU, zU]) ?_ ⟨Or.inr rfl, Or.inr rfl, Or.inr rfl, Or.inr rfl, Or.inr rfl, Or.inr rfl, Or.inl rfl, Or.inl rfl, Or.inl rfl, trivial⟩
                                  exact ih56 _ _ _ _ (by exact hz9) (by exact hk2) (by omega) (by first | exact hon | exact zor_i _ _) (by omega) (by omega) (by exact hTn) (by omega)
                                · refine zT.iconst dX13_morningBy_174 ?_
                                  refine zT.goto (tgt := 179) dX13_morningBy_175 (by decide) ?_
                                  refine zT.istore 8 dX13_morningBy_179 (by decide) (zpre1 rfl (zcI _)) ?_
                                  show zT G _ _ _ [zR b, zU, zI l, zI v, zI on, zI p, zI c, zI D, zI 0] _ _ _ _ _ _ _
                                  refine zT.aload_n 0 dX13_morningBy_181 rfl rfl ?_
                                  refine zT.getF dX13_morningBy_182 fX13_76 rfl (zMod.k hb) (j := 39) (by decide) rfl (zMod.f1039 hb) ?_
                                  refine zT.iconst dX13_morningBy_185 ?_
                                  refine zT.iload 7 dX13_morningBy_186 rfl ?_
                                  refine zT.imul dX13_morningBy_188 ?_
                                  refine zT.iload 8 dX13_morningBy_189 rfl ?_
                                  refine zT.iadd dX13_morningBy_191 ?_
                                  refine zT.dup2 dX13_morningBy_192 (zcI _) (zcR _) ?_
                                  have hk9 := hk1.1 (2 * D + (0)) (by omega) (by omega)
                                  refine zT.iald dX13_morningBy_193 (zMod.a1039 hb) (by first | assumption | exact zq_i _ | exact zand_i _ _ | exact zor_i _ _ | exact zN _ | omega) (by rw [(zMod.n1039 hb)]; first | assumption | exact zq_i _ | exact zand_i _ _ | exact zor_i _ _ | exact zN _ | omega) (fun z193 => ?_)
                                  have r193 : m2 (b + 21) ((2 * D) + 0) = mB (b + 21) ((2 * D) + 0) := by rw [em2, zup_ne (by omega)]
                                  rw [r193] at z193 ⊢
                                  refine zT.iconst dX13_morningBy_194 ?_
                                  refine zT.isub dX13_morningBy_195 ?_
                                  refine zT.iast dX13_morningBy_196 (zMod.a1039 hb) (by first | assumption | exact zq_i _ | exact zand_i _ _ | exact zor_i _ _ | exact zN _ | omega) (by rw [(zMod.n1039 hb)]; first | assumption | exact zq_i _ | exact zand_i _ _ | exact zor_i _ _ | exact zN _ | omega) (by first | assumption | exact zq_i _ | exact zand_i _ _ | exact zor_i _ _ | exact zN _ | omega) ?_
                                  obtain ⟨m6, em6⟩ : ∃ z, z = zup m2 (b + 21) ((2 * D) + 0) ((mB (b + 21) ((2 * D) + 0)) - 1) := ⟨_, rfl⟩
                                  rw [← em6]
                                  have hse : 0 = fSe (mB (b + 21)) E D := by unfold fSe; first | (exfalso; omega) | (rw [zite_t (by omega)]; done) | (rw [zite_f (by omega), zite_t (by omega)]) | (rw [zite_f (by omega), zite_f (by omega)])
                                  have hss : m6 b 1056 = fSs (mB (b + 21)) E D := by
                                    unfold fSs
                                    first
                                      | (exfalso; omega)
                                      | (rw [zite_f (by omega), em6, zup_ne (by omega), em2, zup_at])
                                  have hld : m6 (b + 21) = fLd (mB (b + 21)) (2 * D + (0)) := by
                                    funext j
                                    unfold fLd
                                    by_cases q : j = 2 * D + (0)
                                    · rw [zite_t q, q, em6]
                                      first | exact zup_at | (rw [Int.add_zero]; exact zup_at)
                                    · rw [zite_f q, em6, zup_ne (fun z => q (by omega)), em2, zup_ne (by omega)]
                                  have h_m2 : zSc b m m2 := by rw [em2]; exact hzB.up0 (by unfold zUw; omega)
                                  have h_m6 : zSc b m m6 := by rw [em6]; exact h_m2.up (by omega) (by unfold zUw; omega)
                                  have hz9 : zSc b m m6 := h_m6
                                  refine zT.iinc 2 dX13_morningBy_197 rfl (by decide) (zpreU rfl) ?_
                                  show zT G _ _ _ [zR b, zU, zI (l + (-1)), zI v, zI on, zI p, zI c, zI D, zI 0] _ _ _ _ _ _ _
                                  refine zT.iload 4 dX13_morningBy_200 rfl ?_
                                  refine zT.iconst dX13_morningBy_202 ?_
                                  refine zT.iload 7 dX13_morningBy_203 rfl ?_
                                  refine zT.ishl dX13_morningBy_205 (by first | assumption | exact zq_i _ | exact zand_i _ _ | exact zor_i _ _ | exact zN _ | omega) (by first | assumption | exact zq_i _ | exact zand_i _ _ | exact zor_i _ _ | exact zN _ | omega) ?_
                                  refine zT.ior dX13_morningBy_206 ?_
                                  refine zT.istore 4 dX13_morningBy_207 (by decide) (zpre1 rfl (zcI _)) ?_
                                  show zT G _ _ _ [zR b, zU, zI (l + (-1)), zI v, zI (zor on (1 * 2 ^ D.toNat)), zI p, zI c, zI D, zI 0] _ _ _ _ _ _ _
                                  have hp9 : 0 < mB (b + 21) (2 * D + (0)) := by have q := fSe_p (sd := E) d2 (by omega) (by omega); rw [← hse] at q; exact q
                                  have hk2 : fOk ((aK (A 0 1023) (A 2)) 5) (m6 (b + 21)) (l + (-1)) := by rw [hld]; exact hk1.ld (by omega) (by omega) hp9
                                  have hTn : mIn ((aK (A 0 1023) (A 2)) 5) (Q + 1 - (p + 1).toNat) (m6 b 1056) (m6 (b + 21)) (l + (-1)) (zor on (1 * 2 ^ D.toNat)) = T := by
                                    rw [show l + (-1) = l - 1 by omega, hld, hss, ← hT, show Q + 1 - p.toNat = (Q + 1 - (p + 1).toNat) + 1 by omega, mIn_s (s := D) (c := 2 * D + (0)) (by rw [← hcc]; omega) (by rw [← hcc]; exact hD) (by rw [hse, hE]), ← hE]
                                  refine zT.iinc 5 dX13_morningBy_209 rfl (by decide) (zpre1 rfl (zcI _)) ?_
                                  show zT G _ _ _ [zR b, zU, zI (l + (-1)), zI v, zI (zor on (1 * 2 ^ D.toNat)), zI (p + 1), zI c, zI D, zI 0] _ _ _ _ _ _ _
                                  refine zT.goto (tgt := 56) dX13_morningBy_212 (by decide) ?_
                                  refine zT.loc (V' := [zR b, zU, zI (l + (-1)), zI v, zI (zor on (1 * 2 ^ D.toNat)), zI (p + 1), zU, zU, zU]) ?_ ⟨Or.inr rfl, Or.inr rfl, Or.inr rfl, Or.inr rfl, Or.inr rfl, Or.inr rfl, Or.inl rfl, Or.inl rfl, Or.inl rfl, trivial⟩
                                  exact ih56 _ _ _ _ (by exact hz9) (by exact hk2) (by omega) (by first | exact hon | exact zor_i _ _) (by omega) (by omega) (by exact hTn) (by omega)
                              · refine zT.aload_n 0 dX13_morningBy_154 rfl rfl ?_
                                refine zT.iconst dX13_morningBy_155 ?_
                                refine zT.callV (M' := mX13_draw) (b := b) [zI 2] [] dX13_morningBy_156 kX13_443 rfl rfl (ci := 10) (r := (RX13, TX13, 62)) rfl (zMod.k hb) (C_X13_draw hb (by omega) (by omega)) (by decide) (k' := 0) (n' := 0) (by omega) (by omega) (by decide) (zdk (v := some (zI (fDr (m2 b 1056) 2))) ?_) (fun _ _ _ _ h => h.elim)
                                show zT G _ _ _ _ [zI (fDr (m2 b 1056) 2)] _ _ _ _ _ _
                                obtain ⟨m7, em7⟩ : ∃ z, z = zup m2 b 1056 (fSd (m2 b 1056)) := ⟨_, rfl⟩
                                rw [← em7]
                                rw [show m2 b 1056 = E by rw [em2, zup_at]]
                                show zT G _ _ _ _ [zI (fDr E 2)] _ _ _ _ _ _
                                refine zT.goto (tgt := 179) dX13_morningBy_159 (by decide) ?_
                                refine zT.istore 8 dX13_morningBy_179 (by decide) (zpre1 rfl (zcI _)) ?_
                                show zT G _ _ _ [zR b, zU, zI l, zI v, zI on, zI p, zI c, zI D, zI (fDr E 2)] _ _ _ _ _ _ _
                                refine zT.aload_n 0 dX13_morningBy_181 rfl rfl ?_
                                refine zT.getF dX13_morningBy_182 fX13_76 rfl (zMod.k hb) (j := 39) (by decide) rfl (zMod.f1039 hb) ?_
                                refine zT.iconst dX13_morningBy_185 ?_
                                refine zT.iload 7 dX13_morningBy_186 rfl ?_
                                refine zT.imul dX13_morningBy_188 ?_
                                refine zT.iload 8 dX13_morningBy_189 rfl ?_
                                refine zT.iadd dX13_morningBy_191 ?_
                                refine zT.dup2 dX13_morningBy_192 (zcI _) (zcR _) ?_
                                have hk9 := hk1.1 (2 * D + (fDr E 2)) (by omega) (by omega)
                                refine zT.iald dX13_morningBy_193 (zMod.a1039 hb) (by first | assumption | exact zq_i _ | exact zand_i _ _ | exact zor_i _ _ | exact zN _ | omega) (by rw [(zMod.n1039 hb)]; first | assumption | exact zq_i _ | exact zand_i _ _ | exact zor_i _ _ | exact zN _ | omega) (fun z193 => ?_)
                                have r193 : m7 (b + 21) ((2 * D) + (fDr E 2)) = mB (b + 21) ((2 * D) + (fDr E 2)) := by rw [em7, zup_ne (by omega), em2, zup_ne (by omega)]
                                rw [r193] at z193 ⊢
                                refine zT.iconst dX13_morningBy_194 ?_
                                refine zT.isub dX13_morningBy_195 ?_
                                refine zT.iast dX13_morningBy_196 (zMod.a1039 hb) (by first | assumption | exact zq_i _ | exact zand_i _ _ | exact zor_i _ _ | exact zN _ | omega) (by rw [(zMod.n1039 hb)]; first | assumption | exact zq_i _ | exact zand_i _ _ | exact zor_i _ _ | exact zN _ | omega) (by first | assumption | exact zq_i _ | exact zand_i _ _ | exact zor_i _ _ | exact zN _ | omega) ?_
                                obtain ⟨m8, em8⟩ : ∃ z, z = zup m7 (b + 21) ((2 * D) + (fDr E 2)) ((mB (b + 21) ((2 * D) + (fDr E 2))) - 1) := ⟨_, rfl⟩
                                rw [← em8]
                                have hse : fDr E 2 = fSe (mB (b + 21)) E D := by unfold fSe; first | (exfalso; omega) | (rw [zite_t (by omega)]; done) | (rw [zite_f (by omega), zite_t (by omega)]) | (rw [zite_f (by omega), zite_f (by omega)])
                                have hss : m8 b 1056 = fSs (mB (b + 21)) E D := by
                                  unfold fSs
                                  first
                                    | (exfalso; omega)
                                    | (rw [zite_t (by omega), em8, zup_ne (by omega), em7, zup_at, em2, zup_at])
                                have hld : m8 (b + 21) = fLd (mB (b + 21)) (2 * D + (fDr E 2)) := by
                                  funext j
                                  unfold fLd
                                  by_cases q : j = 2 * D + (fDr E 2)
                                  · rw [zite_t q, q, em8]
                                    first | exact zup_at | (rw [Int.add_zero]; exact zup_at)
                                  · rw [zite_f q, em8, zup_ne (fun z => q (by omega)), em7, zup_ne (by omega), em2, zup_ne (by omega)]
                                have h_m2 : zSc b m m2 := by rw [em2]; exact hzB.up0 (by unfold zUw; omega)
                                have h_m7 : zSc b m m7 := by rw [em7]; exact h_m2.up0 (by unfold zUw; omega)
                                have h_m8 : zSc b m m8 := by rw [em8]; exact h_m7.up (by omega) (by unfold zUw; omega)
                                have hz9 : zSc b m m8 := h_m8
                                refine zT.iinc 2 dX13_morningBy_197 rfl (by decide) (zpreU rfl) ?_
                                show zT G _ _ _ [zR b, zU, zI (l + (-1)), zI v, zI on, zI p, zI c, zI D, zI (fDr E 2)] _ _ _ _ _ _ _
                                refine zT.iload 4 dX13_morningBy_200 rfl ?_
                                refine zT.iconst dX13_morningBy_202 ?_
                                refine zT.iload 7 dX13_morningBy_203 rfl ?_
                                refine zT.ishl dX13_morningBy_205 (by first | assumption | exact zq_i _ | exact zand_i _ _ | exact zor_i _ _ | exact zN _ | omega) (by first | assumption | exact zq_i _ | exact zand_i _ _ | exact zor_i _ _ | exact zN _ | omega) ?_
                                refine zT.ior dX13_morningBy_206 ?_
                                refine zT.istore 4 dX13_morningBy_207 (by decide) (zpre1 rfl (zcI _)) ?_
                                show zT G _ _ _ [zR b, zU, zI (l + (-1)), zI v, zI (zor on (1 * 2 ^ D.toNat)), zI p, zI c, zI D, zI (fDr E 2)] _ _ _ _ _ _ _
                                have hp9 : 0 < mB (b + 21) (2 * D + (fDr E 2)) := by have q := fSe_p (sd := E) d2 (by omega) (by omega); rw [← hse] at q; exact q
                                have hk2 : fOk ((aK (A 0 1023) (A 2)) 5) (m8 (b + 21)) (l + (-1)) := by rw [hld]; exact hk1.ld (by omega) (by omega) hp9
                                have hTn : mIn ((aK (A 0 1023) (A 2)) 5) (Q + 1 - (p + 1).toNat) (m8 b 1056) (m8 (b + 21)) (l + (-1)) (zor on (1 * 2 ^ D.toNat)) = T := by
                                  rw [show l + (-1) = l - 1 by omega, hld, hss, ← hT, show Q + 1 - p.toNat = (Q + 1 - (p + 1).toNat) + 1 by omega, mIn_s (s := D) (c := 2 * D + (fDr E 2)) (by rw [← hcc]; omega) (by rw [← hcc]; exact hD) (by rw [hse, hE]), ← hE]
                                refine zT.iinc 5 dX13_morningBy_209 rfl (by decide) (zpre1 rfl (zcI _)) ?_
                                show zT G _ _ _ [zR b, zU, zI (l + (-1)), zI v, zI (zor on (1 * 2 ^ D.toNat)), zI (p + 1), zI c, zI D, zI (fDr E 2)] _ _ _ _ _ _ _
                                refine zT.goto (tgt := 56) dX13_morningBy_212 (by decide) ?_
                                refine zT.loc (V' := [zR b, zU, zI (l + (-1)), zI v, zI (zor on (1 * 2 ^ D.toNat)), zI (p + 1), zU, zU, zU]) ?_ ⟨Or.inr rfl, Or.inr rfl, Or.inr rfl, Or.inr rfl, Or.inr rfl, Or.inr rfl, Or.inl rfl, Or.inl rfl, Or.inl rfl, trivial⟩
                                exact ih56 _ _ _ _ (by exact hz9) (by exact hk2) (by omega) (by first | exact hon | exact zor_i _ _) (by omega) (by omega) (by exact hTn) (by omega)
                          · refine zT.goto (tgt := 209) dX13_morningBy_115 (by decide) ?_
                            have hcc : c = acnt (fCd (mB (b + 21)) on) ((aK (A 0 1023) (A 2)) 5) := by rw [hc, show s = ((aK (A 0 1023) (A 2)) 5) by omega]
                            have hz9 := hzB
                            have hk2 := hk1
                            have hTn : mIn ((aK (A 0 1023) (A 2)) 5) (Q + 1 - (p + 1).toNat) (mB b 1056) (mB (b + 21)) l on = T := by rw [← hT, mIn_0 (by rw [← hcc]; omega), mIn_0 (by rw [← hcc]; omega)]
                            refine zT.iinc 5 dX13_morningBy_209 rfl (by decide) (zpre1 rfl (zcI _)) ?_
                            show zT G _ _ _ [zR b, zU, zI l, zI v, zI on, zI (p + 1), zI c, zI s, zU] _ _ _ _ _ _ _
                            refine zT.goto (tgt := 56) dX13_morningBy_212 (by decide) ?_
                            refine zT.loc (V' := [zR b, zU, zI l, zI v, zI on, zI (p + 1), zU, zU, zU]) ?_ ⟨Or.inr rfl, Or.inr rfl, Or.inr rfl, Or.inr rfl, Or.inr rfl, Or.inr rfl, Or.inl rfl, Or.inl rfl, Or.inr rfl, trivial⟩
                            exact ih56 _ _ _ _ (by exact hz9) (by exact hk2) (by omega) (by first | exact hon | exact zor_i _ _) (by omega) (by omega) (by exact hTn) (by omega)
                        · refine zT.iload 4 dX13_morningBy_82 rfl ?_
                          refine zT.iload 7 dX13_morningBy_84 rfl ?_
                          refine zT.callS (M' := mX13_has) [zI on, zI s] [] dX13_morningBy_86 kX13_220 rfl rfl (C_X13_has (by first | assumption | exact zq_i _ | exact zand_i _ _ | exact zor_i _ _ | exact zN _ | omega) (by first | assumption | exact zq_i _ | exact zand_i _ _ | exact zor_i _ _ | exact zN _ | omega) (by first | assumption | exact zq_i _ | exact zand_i _ _ | exact zor_i _ _ | exact zN _ | omega)) (by decide) (k' := 0) (n' := 0) (by omega) (by omega) (by decide) (zdk (v := some (zI (zq (zbit on s)))) ?_) (fun _ _ _ _ h => h.elim)
                          show zT G _ _ _ _ [zI (zq (zbit on s))] _ _ _ _ _ _
                          refine zT.if_neB (tgt := 104) dX13_morningBy_89 (by decide) (fun c89 => ?_) (fun c89 => ?_)
                          · refine zT.iinc 7 dX13_morningBy_104 rfl (by decide) (zpre1 rfl (zcI _)) ?_
                            show zT G _ _ _ [zR b, zU, zI l, zI v, zI on, zI p, zI c, zI (s + 1), zU] _ _ _ _ _ _ _
                            refine zT.goto (tgt := 73) dX13_morningBy_107 (by decide) ?_
                            exact ih73 _ _ (by first | assumption | exact zq_i _ | exact zand_i _ _ | exact zor_i _ _ | exact zN _ | omega) (by first | assumption | exact zq_i _ | exact zand_i _ _ | exact zor_i _ _ | exact zN _ | omega) (by
                                rcases acnt_s (P := fCd (mB (b + 21)) on) s0 with ⟨q, e⟩ | ⟨q, e⟩
                                · have q1 := q.1
                                  have q2 := q.2
                                  first | omega | exact absurd ‹zbit on s› q1
                                · first
                                    | omega
                                    | exact absurd ⟨by assumption, by omega⟩ q) (by omega)
                          · refine zT.aload_n 0 dX13_morningBy_92 rfl rfl ?_
                            refine zT.iload 7 dX13_morningBy_93 rfl ?_
                            refine zT.callV (M' := mX13_hasLeft) (b := b) [zI s] [] dX13_morningBy_95 kX13_369 rfl rfl (ci := 10) (r := (RX13, TX13, 62)) rfl (zMod.k hb) (C_X13_hasLeft hb hk1.1 (by omega) (by omega)) (by decide) (k' := 0) (n' := 0) (by omega) (by omega) (by decide) (zdk (v := some (zI (zq (0 < mB (b + 21) (2 * s) + mB (b + 21) (2 * s + 1))))) ?_) (fun _ _ _ _ h => h.elim)
                            show zT G _ _ _ _ [zI (zq (0 < mB (b + 21) (2 * s) + mB (b + 21) (2 * s + 1)))] _ _ _ _ _ _
                            refine zT.if_eqB (tgt := 104) dX13_morningBy_98 (by decide) (fun c98 => ?_) (fun c98 => ?_)
                            · refine zT.iinc 7 dX13_morningBy_104 rfl (by decide) (zpre1 rfl (zcI _)) ?_
                              show zT G _ _ _ [zR b, zU, zI l, zI v, zI on, zI p, zI c, zI (s + 1), zU] _ _ _ _ _ _ _
                              refine zT.goto (tgt := 73) dX13_morningBy_107 (by decide) ?_
                              exact ih73 _ _ (by first | assumption | exact zq_i _ | exact zand_i _ _ | exact zor_i _ _ | exact zN _ | omega) (by first | assumption | exact zq_i _ | exact zand_i _ _ | exact zor_i _ _ | exact zN _ | omega) (by
                                  rcases acnt_s (P := fCd (mB (b + 21)) on) s0 with ⟨q, e⟩ | ⟨q, e⟩
                                  · have q1 := q.1
                                    have q2 := q.2
                                    first | omega | exact absurd ‹zbit on s› q1
                                  · first
                                      | omega
                                      | exact absurd ⟨by assumption, by omega⟩ q) (by omega)
                            · refine zT.iinc 6 dX13_morningBy_101 rfl (by decide) (zpre1 rfl (zcI _)) ?_
                              show zT G _ _ _ [zR b, zU, zI l, zI v, zI on, zI p, zI (c + 1), zI s, zU] _ _ _ _ _ _ _
                              refine zT.iinc 7 dX13_morningBy_104 rfl (by decide) (zpre1 rfl (zcI _)) ?_
                              show zT G _ _ _ [zR b, zU, zI l, zI v, zI on, zI p, zI (c + 1), zI (s + 1), zU] _ _ _ _ _ _ _
                              refine zT.goto (tgt := 73) dX13_morningBy_107 (by decide) ?_
                              exact ih73 _ _ (by first | assumption | exact zq_i _ | exact zand_i _ _ | exact zor_i _ _ | exact zN _ | omega) (by first | assumption | exact zq_i _ | exact zand_i _ _ | exact zor_i _ _ | exact zN _ | omega) (by
                                  rcases acnt_s (P := fCd (mB (b + 21)) on) s0 with ⟨q, e⟩ | ⟨q, e⟩
                                  · have q1 := q.1
                                    have q2 := q.2
                                    first | omega | exact absurd ‹zbit on s› q1
                                  · first
                                      | omega
                                      | exact absurd ⟨by assumption, by omega⟩ q) (by omega)
                    exact L73 _ _ _ (by first | assumption | exact zq_i _ | exact zand_i _ _ | exact zor_i _ _ | exact zN _ | omega) (by first | assumption | exact zq_i _ | exact zand_i _ _ | exact zor_i _ _ | exact zN _ | omega) (by rfl) (Nat.lt_succ_self _)
              exact L56 _ _ _ _ _ (by exact hzA) (by exact ho) (by omega) (by decide) (by omega) (by omega) (by rw [hT0]; rfl) (Nat.lt_succ_self _)
        exact L46 _ _ _ _ (by exact hz) (by rw [hlf]; exact hO) (by omega) (by omega) (by omega) (by rw [Int.zero_add, mOu_c (by omega) _ _ hLe, hsd, hlf, hR9]) (Nat.lt_succ_self _)
      · refine zT.aload_n 0 dX13_morningBy_22 rfl rfl ?_
        refine zT.getF dX13_morningBy_23 fX13_76 rfl (zMod.k hb) (j := 39) (by decide) rfl (zMod.f1039 hb) ?_
        refine zT.iload_n 3 dX13_morningBy_26 rfl rfl ?_
        refine zT.aload_n 0 dX13_morningBy_27 rfl rfl ?_
        refine zT.iload_n 3 dX13_morningBy_28 rfl rfl ?_
        refine zT.iconst dX13_morningBy_29 ?_
        refine zT.idiv dX13_morningBy_30 (by first | assumption | exact zq_i _ | exact zand_i _ _ | exact zor_i _ _ | exact zN _ | omega) (by first | assumption | exact zq_i _ | exact zand_i _ _ | exact zor_i _ _ | exact zN _ | omega) (by first | assumption | exact zq_i _ | exact zand_i _ _ | exact zor_i _ _ | exact zN _ | omega) (by first | assumption | exact zq_i _ | exact zand_i _ _ | exact zor_i _ _ | exact zN _ | omega) ?_
        refine zT.iload_n 3 dX13_morningBy_31 rfl rfl ?_
        refine zT.iconst dX13_morningBy_32 ?_
        refine zT.irem dX13_morningBy_33 (by first | assumption | exact zq_i _ | exact zand_i _ _ | exact zor_i _ _ | exact zN _ | omega) (by first | assumption | exact zq_i _ | exact zand_i _ _ | exact zor_i _ _ | exact zN _ | omega) (by first | assumption | exact zq_i _ | exact zand_i _ _ | exact zor_i _ _ | exact zN _ | omega) (by first | assumption | exact zq_i _ | exact zand_i _ _ | exact zor_i _ _ | exact zN _ | omega) ?_
        refine zT.callV (M' := mX13_needs) (b := b) [zI (k / 2), zI (k % 2)] [zI k, zR (b + 21)] dX13_morningBy_34 kX13_309 rfl rfl (ci := 10) (r := (RX13, TX13, 62)) rfl (zMod.k hb) (C_X13_needs hb (by first | assumption | exact zq_i _ | exact zand_i _ _ | exact zor_i _ _ | exact zN _ | omega) (by first | assumption | exact zq_i _ | exact zand_i _ _ | exact zor_i _ _ | exact zN _ | omega)) (by decide) (k' := 0) (n' := 0) (by omega) (by omega) (by simp only [List.map, zcI, zcJ, zcR, List.sum_cons, List.sum_nil]; decide) (zdk (v := some (zI (mC (b + 2) (8 + 3 * (k / 2) + (k % 2))))) ?_) (fun _ _ _ _ h => h.elim)
        show zT G _ _ _ _ [zI (mC (b + 2) (8 + 3 * (k / 2) + (k % 2))), zI k, zR (b + 21)] _ _ _ _ _ _
        have hzi9 : zi (mC (b + 2) (8 + 3 * (k / 2) + (k % 2))) := by
          rw [yC.2 _ (by omega) (by omega)]
          have e := hk.2.1 (k / 2) (by omega) (by omega)
          unfold zi
          rcases (by omega : k % 2 = 0 ∨ k % 2 = 1) with q | q <;> rw [q] <;> omega
        refine zT.iast dX13_morningBy_37 (zMod.a1039 hb) (by first | assumption | exact zq_i _ | exact zand_i _ _ | exact zor_i _ _ | exact zN _ | omega) (by rw [(zMod.n1039 hb)]; first | assumption | exact zq_i _ | exact zand_i _ _ | exact zor_i _ _ | exact zN _ | omega) (by first | assumption | exact zq_i _ | exact zand_i _ _ | exact zor_i _ _ | exact zN _ | omega) ?_
        obtain ⟨m9, em9⟩ : ∃ z, z = zup mC (b + 21) k (mC (b + 2) (8 + 3 * (k / 2) + (k % 2))) := ⟨_, rfl⟩
        rw [← em9]
        have hz2 : zSc b m m9 := by rw [em9]; exact hz.up (by omega) (by unfold zUw; omega)
        have hsd2 : m9 b 1056 = from_ := by rw [em9, zup_ne (by omega)]; exact hsd
        have hl2 : ∀ j, 0 ≤ j → j < k + 1 → m9 (b + 21) j = (aK (A 0 1023) (A 2)) (8 + 3 * (j / 2) + j % 2) := by
          intro j a b9
          by_cases q : j = k
          · rw [q, em9, zup_at]
            exact yC.2 _ (by omega) (by omega)
          · rw [em9, zup_ne (fun z => q z.2)]
            exact hl j a (by omega)
        refine zT.iinc 3 dX13_morningBy_38 rfl (by decide) (zpre1 rfl (zcI _)) ?_
        show zT G _ _ _ [zR b, zU, zI left, zI (k + 1), zU, zU, zU, zU, zU] _ _ _ _ _ _ _
        refine zT.goto (tgt := 12) dX13_morningBy_41 (by decide) ?_
        exact ih12 _ _ (by exact hz2) (by exact hsd2) (by first | assumption | exact zq_i _ | exact zand_i _ _ | exact zor_i _ _ | exact zN _ | omega) (by first | assumption | exact zq_i _ | exact zand_i _ _ | exact zor_i _ _ | exact zN _ | omega) (by exact hl2) (by omega)
  refine zT.loc (V' := [zR b, zU, zI left, zI 0, zU, zU, zU, zU, zU]) ?_ ⟨Or.inr rfl, Or.inl rfl, Or.inr rfl, Or.inr rfl, Or.inr rfl, Or.inr rfl, Or.inr rfl, Or.inr rfl, Or.inr rfl, trivial⟩
  exact L12 _ _ _ (by rw [em1]; exact zSc.rf.up0 (by unfold zUw; omega)) (by rw [em1, zup_at]) (by first | assumption | exact zq_i _ | exact zand_i _ _ | exact zor_i _ _ | exact zN _ | omega) (by first | assumption | exact zq_i _ | exact zand_i _ _ | exact zor_i _ _ | exact zN _ | omega) (by exact fun j a b => by omega) (Nat.lt_succ_self _)

theorem C_X13_morning {G : zG} {S : zS} {m : zMm} {b : Int} {A : zMm} (hb : zMod S b) (hA : yEq m b A) (hV : aVd A) {x : Int} (hf : zi x) : zC G mX13_morning 4 0 0 [zR b, zI x] S m (yPo S m b (some (zI (zite (((aK (A 0 1023) (A 2)) 5) = 0) (-1) (mOu ((aK (A 0 1023) (A 2)) 5) ((aK (A 0 1023) (A 2)) 0).toNat 320 (x) (fun j => (aK (A 0 1023) (A 2)) (8 + 3 * (j / 2) + j % 2)) (fAll (aK (A 0 1023) (A 2)) ((aK (A 0 1023) (A 2)) 5)))))) (uLay (zup A 0 1000 0))) zNX := by
  have ym := hA.R hV
  have nm := ym.n
  have sm := ym.s
  have rm := ym.r
  have hk := hV.ki.1
  have hk0 := hk.1
  have hp0 := hV.pl.1
  have hp1 := hV.pl.2.1
  refine zC.of [zR b, zI x] (by decide) rfl (zEn1 (zcR _) (zEn1 (zcI _) (zEn0 (by simp)))) rfl ?_
  refine zT.rng hb.a1014 (fun zN => ?_)
  obtain ⟨Q9, eQ9⟩ : ∃ z : zQt, z = (yPo S m b (some (zI (zite (((aK (A 0 1023) (A 2)) 5) = 0) (-1) (mOu ((aK (A 0 1023) (A 2)) 5) ((aK (A 0 1023) (A 2)) 0).toNat 320 (x) (fun j => (aK (A 0 1023) (A 2)) (8 + 3 * (j / 2) + j % 2)) (fAll (aK (A 0 1023) (A 2)) ((aK (A 0 1023) (A 2)) 5)))))) (uLay (zup A 0 1000 0))) := ⟨_, rfl⟩
  rw [← eQ9]
  refine zT.aload_n 0 dX13_morning_0 rfl rfl ?_
  refine zT.iconst dX13_morning_1 ?_
  refine zT.putI dX13_morning_2 fX13_122 zs_1000 rfl (zMod.k hb) (j := 0) (by decide) rfl (by first | assumption | exact zq_i _ | exact zand_i _ _ | exact zor_i _ _ | exact zN _ | omega) ?_
  obtain ⟨m1, em1⟩ : ∃ z, z = zup m b 1000 0 := ⟨_, rfl⟩
  rw [← em1]
  have ym1 : yR m1 b A := by rw [em1]; exact ym.up (by omega)
  have nm1 := ym1.n
  have sm1 := ym1.s
  have rm1 := ym1.r
  refine zT.aload_n 0 dX13_morning_5 rfl rfl ?_
  refine zT.callV (M' := mX13_lay) (b := b) [] [] dX13_morning_6 kX13_202 rfl rfl (ci := 10) (r := (RX13, TX13, 62)) rfl (zMod.k hb) (C_X13_lay hb) (by decide) (k' := 0) (n' := 0) (by omega) (by omega) (by decide) (zdk (v := none) ?_) (fun _ _ _ _ h => h.elim)
  show zT G _ _ _ _ [] _ _ _ _ _ _
  obtain ⟨m2, em2⟩ : ∃ z, z = ylaid m1 b := ⟨_, rfl⟩
  rw [← em2]
  have ym2 : yL m2 b A := by rw [em2]; exact hA.L2 hV (fun j => by rw [em1, zup_ne (by omega)]) (by rw [em1, zup_ne (by omega)])
  have nm2 := ym2.1.n
  have sm2 := ym2.1.s
  have rm2 := ym2.1.r
  have hI2 : zIn b m m2 := by rw [em2, em1]; exact zIn.rf.up0.lay
  have hE2 : yEw m2 b (uLay (zup A 0 1000 0)) := by rw [em2, em1]; exact hA.up0.lay.w
  refine zT.aload_n 0 dX13_morning_9 rfl rfl ?_
  refine zT.callV (M' := mX13_slices) (b := b) [] [] dX13_morning_10 kX13_271 rfl rfl (ci := 10) (r := (RX13, TX13, 62)) rfl (zMod.k hb) (C_X13_slices hb) (by decide) (k' := 0) (n' := 0) (by omega) (by omega) (by decide) (zdk (v := some (zI (m2 (b + 2) (5)))) ?_) (fun _ _ _ _ h => h.elim)
  show zT G _ _ _ _ [zI (m2 (b + 2) (5))] _ _ _ _ _ _
  refine zT.if_ne (tgt := 20) dX13_morning_13 (by decide) (by first | assumption | exact zq_i _ | exact zand_i _ _ | exact zor_i _ _ | exact zN _ | omega) (fun c13 => ?_) (fun c13 => ?_)
  · refine zT.aload_n 0 dX13_morning_20 rfl rfl ?_
    refine zT.iload_n 1 dX13_morning_21 rfl rfl ?_
    refine zT.callV (M' := mX13_morningBy) (b := b) [zI x] [] dX13_morning_22 kX13_449 rfl rfl (ci := 10) (r := (RX13, TX13, 62)) rfl (zMod.k hb) (C_X13_morningBy hb ym2 hk hf) (by decide) (k' := 0) (n' := 0) (by omega) (by omega) (by decide) (fun v22 S22_ m22_ h22 => ?_) (fun _ _ _ _ h => h.elim)
    obtain ⟨rfl, eS22, o22⟩ := h22
    have eS22 := eS22.symm
    subst eS22
    show zT G _ _ _ _ [zI (mOu ((aK (A 0 1023) (A 2)) 5) ((aK (A 0 1023) (A 2)) 0).toNat 320 (x) (fun j => (aK (A 0 1023) (A 2)) (8 + 3 * (j / 2) + j % 2)) (fAll (aK (A 0 1023) (A 2)) ((aK (A 0 1023) (A 2)) 5)))] _ _ _ _ _ _
    refine zT.iret dX13_morning_25 rfl ?_
    rw [eQ9]
    first | exact ⟨by rw [zite_t (by omega)], rfl, hI2, hE2⟩ | exact ⟨by rw [zite_f (by omega)], rfl, hI2.tr o22.inn, hE2.sc o22⟩
  · refine zT.iconst dX13_morning_16 ?_
    refine zT.goto (tgt := 25) dX13_morning_17 (by decide) ?_
    refine zT.iret dX13_morning_25 rfl ?_
    rw [eQ9]
    first | exact ⟨by rw [zite_t (by omega)], rfl, hI2, hE2⟩ | exact ⟨by rw [zite_f (by omega)], rfl, hI2.tr o22.inn, hE2.sc o22⟩

theorem C_X13_mornings {G : zG} {S : zS} {m : zMm} {b : Int} {A : zMm} (hb : zMod S b) (hA : yEq m b A) (hV : aVd A) {c f : Int} (hc : zi c) (hf : zi f) : zC G mX13_mornings 4 0 0 [zR b, zI c, zI f] S m (yPo S m b (some (zI (zite (((aK (A 0 1023) (A 2)) 5) = 0 ∨ c < 1 ∨ 100 < c) (-1) (zfd (fun a i => min a (mOu ((aK (A 0 1023) (A 2)) 5) ((aK (A 0 1023) (A 2)) 0).toNat 320 ((f + i).bmod 4294967296) (fun j => (aK (A 0 1023) (A 2)) (8 + 3 * (j / 2) + j % 2)) (fAll (aK (A 0 1023) (A 2)) ((aK (A 0 1023) (A 2)) 5)))) 1000000000 c)))) (uLay (zup A 0 1000 0))) zNX := by
  have ym := hA.R hV
  have nm := ym.n
  have sm := ym.s
  have rm := ym.r
  have hk := hV.ki.1
  have hk0 := hk.1
  have hp0 := hV.pl.1
  have hp1 := hV.pl.2.1
  refine zC.of [zR b, zI c, zI f, zU, zU, zU] (by decide) rfl (zEn1 (zcR _) (zEn1 (zcI _) (zEn1 (zcI _) (zEn0 (by simp))))) rfl ?_
  refine zT.rng hb.a1014 (fun zN => ?_)
  obtain ⟨Q9, eQ9⟩ : ∃ z : zQt, z = (yPo S m b (some (zI (zite (((aK (A 0 1023) (A 2)) 5) = 0 ∨ c < 1 ∨ 100 < c) (-1) (zfd (fun a i => min a (mOu ((aK (A 0 1023) (A 2)) 5) ((aK (A 0 1023) (A 2)) 0).toNat 320 ((f + i).bmod 4294967296) (fun j => (aK (A 0 1023) (A 2)) (8 + 3 * (j / 2) + j % 2)) (fAll (aK (A 0 1023) (A 2)) ((aK (A 0 1023) (A 2)) 5)))) 1000000000 c)))) (uLay (zup A 0 1000 0))) := ⟨_, rfl⟩
  rw [← eQ9]
  refine zT.aload_n 0 dX13_mornings_0 rfl rfl ?_
  refine zT.iconst dX13_mornings_1 ?_
  refine zT.putI dX13_mornings_2 fX13_122 zs_1000 rfl (zMod.k hb) (j := 0) (by decide) rfl (by first | assumption | exact zq_i _ | exact zand_i _ _ | exact zor_i _ _ | exact zN _ | omega) ?_
  obtain ⟨m1, em1⟩ : ∃ z, z = zup m b 1000 0 := ⟨_, rfl⟩
  rw [← em1]
  have ym1 : yR m1 b A := by rw [em1]; exact ym.up (by omega)
  have nm1 := ym1.n
  have sm1 := ym1.s
  have rm1 := ym1.r
  refine zT.aload_n 0 dX13_mornings_5 rfl rfl ?_
  refine zT.callV (M' := mX13_lay) (b := b) [] [] dX13_mornings_6 kX13_202 rfl rfl (ci := 10) (r := (RX13, TX13, 62)) rfl (zMod.k hb) (C_X13_lay hb) (by decide) (k' := 0) (n' := 0) (by omega) (by omega) (by decide) (zdk (v := none) ?_) (fun _ _ _ _ h => h.elim)
  show zT G _ _ _ _ [] _ _ _ _ _ _
  obtain ⟨m2, em2⟩ : ∃ z, z = ylaid m1 b := ⟨_, rfl⟩
  rw [← em2]
  have ym2 : yL m2 b A := by rw [em2]; exact hA.L2 hV (fun j => by rw [em1, zup_ne (by omega)]) (by rw [em1, zup_ne (by omega)])
  have nm2 := ym2.1.n
  have sm2 := ym2.1.s
  have rm2 := ym2.1.r
  have hI2 : zIn b m m2 := by rw [em2, em1]; exact zIn.rf.up0.lay
  have hE2 : yEw m2 b (uLay (zup A 0 1000 0)) := by rw [em2, em1]; exact hA.up0.lay.w
  refine zT.aload_n 0 dX13_mornings_9 rfl rfl ?_
  refine zT.callV (M' := mX13_slices) (b := b) [] [] dX13_mornings_10 kX13_271 rfl rfl (ci := 10) (r := (RX13, TX13, 62)) rfl (zMod.k hb) (C_X13_slices hb) (by decide) (k' := 0) (n' := 0) (by omega) (by omega) (by decide) (zdk (v := some (zI (m2 (b + 2) (5)))) ?_) (fun _ _ _ _ h => h.elim)
  show zT G _ _ _ _ [zI (m2 (b + 2) (5))] _ _ _ _ _ _
  refine zT.if_eq (tgt := 26) dX13_mornings_13 (by decide) (by first | assumption | exact zq_i _ | exact zand_i _ _ | exact zor_i _ _ | exact zN _ | omega) (fun c13 => ?_) (fun c13 => ?_)
  · refine zT.iconst dX13_mornings_26 ?_
    refine zT.iret dX13_mornings_27 rfl ?_
    rw [eQ9]
    exact ⟨by rw [zite_t (by omega)], rfl, hI2, hE2⟩
  · refine zT.iload_n 1 dX13_mornings_16 rfl rfl ?_
    refine zT.iconst dX13_mornings_17 ?_
    refine zT.bipush dX13_mornings_18 ?_
    refine zT.callS (M' := mX13_isIn) [zI c, zI 1, zI 100] [] dX13_mornings_20 kX13_189 rfl rfl (C_X13_isIn (by first | assumption | exact zq_i _ | exact zand_i _ _ | exact zor_i _ _ | exact zN _ | omega) (by first | assumption | exact zq_i _ | exact zand_i _ _ | exact zor_i _ _ | exact zN _ | omega) (by first | assumption | exact zq_i _ | exact zand_i _ _ | exact zor_i _ _ | exact zN _ | omega)) (by decide) (k' := 0) (n' := 0) (by omega) (by omega) (by decide) (zdk (v := some (zI (zq (1 ≤ c ∧ c ≤ 100)))) ?_) (fun _ _ _ _ h => h.elim)
    show zT G _ _ _ _ [zI (zq (1 ≤ c ∧ c ≤ 100))] _ _ _ _ _ _
    refine zT.if_neB (tgt := 28) dX13_mornings_23 (by decide) (fun c23 => ?_) (fun c23 => ?_)
    · refine zT.aload_n 0 dX13_mornings_28 rfl rfl ?_
      refine zT.iload_n 2 dX13_mornings_29 rfl rfl ?_
      refine zT.callV (M' := mX13_morningBy) (b := b) [zI f] [] dX13_mornings_30 kX13_449 rfl rfl (ci := 10) (r := (RX13, TX13, 62)) rfl (zMod.k hb) (C_X13_morningBy hb ym2 hk hf) (by decide) (k' := 0) (n' := 0) (by omega) (by omega) (by decide) (fun v30 S30_ m30_ h30 => ?_) (fun _ _ _ _ h => h.elim)
      obtain ⟨rfl, eS30, o30⟩ := h30
      have eS30 := eS30.symm
      subst eS30
      show zT G _ _ _ _ [zI (mOu ((aK (A 0 1023) (A 2)) 5) ((aK (A 0 1023) (A 2)) 0).toNat 320 (f) (fun j => (aK (A 0 1023) (A 2)) (8 + 3 * (j / 2) + j % 2)) (fAll (aK (A 0 1023) (A 2)) ((aK (A 0 1023) (A 2)) 5)))] _ _ _ _ _ _
      have hmb := mOu_b (n := ((aK (A 0 1023) (A 2)) 5)) (q := ((aK (A 0 1023) (A 2)) 0).toNat) 320 (sd := f) (L := (fun j => (aK (A 0 1023) (A 2)) (8 + 3 * (j / 2) + j % 2))) (left := fAll (aK (A 0 1023) (A 2)) ((aK (A 0 1023) (A 2)) 5))
      have hf1 : zfd (fun a i => min a (mOu ((aK (A 0 1023) (A 2)) 5) ((aK (A 0 1023) (A 2)) 0).toNat 320 ((f + i).bmod 4294967296) (fun j => (aK (A 0 1023) (A 2)) (8 + 3 * (j / 2) + j % 2)) (fAll (aK (A 0 1023) (A 2)) ((aK (A 0 1023) (A 2)) 5)))) 1000000000 1 = mOu ((aK (A 0 1023) (A 2)) 5) ((aK (A 0 1023) (A 2)) 0).toNat 320 (f) (fun j => (aK (A 0 1023) (A 2)) (8 + 3 * (j / 2) + j % 2)) (fAll (aK (A 0 1023) (A 2)) ((aK (A 0 1023) (A 2)) 5)) := by
              rw [show (1 : Int) = 0 + 1 by omega, zfd_s (by omega)]
              show min 1000000000 (mOu _ _ _ ((f + 0).bmod 4294967296) _ _) = _
              rw [show (f + 0).bmod 4294967296 = f by rw [Int.add_zero]; unfold zi at hf; exact Int.bmod_eq_of_le_mul_two (by omega) (by omega)]
              omega
      refine zT.istore_n 3 dX13_mornings_33 rfl (by decide) (zpre1 rfl (zcI _)) ?_
      show zT G _ _ _ [zR b, zI c, zI f, zI (mOu ((aK (A 0 1023) (A 2)) 5) ((aK (A 0 1023) (A 2)) 0).toNat 320 (f) (fun j => (aK (A 0 1023) (A 2)) (8 + 3 * (j / 2) + j % 2)) (fAll (aK (A 0 1023) (A 2)) ((aK (A 0 1023) (A 2)) 5))), zU, zU] _ _ _ _ _ _ _
      refine zT.iconst dX13_mornings_34 ?_
      refine zT.istore 4 dX13_mornings_35 (by decide) (zpre1 rfl (zcI _)) ?_
      show zT G _ _ _ [zR b, zI c, zI f, zI (mOu ((aK (A 0 1023) (A 2)) 5) ((aK (A 0 1023) (A 2)) 0).toNat 320 (f) (fun j => (aK (A 0 1023) (A 2)) (8 + 3 * (j / 2) + j % 2)) (fAll (aK (A 0 1023) (A 2)) ((aK (A 0 1023) (A 2)) 5))), zI 1, zU] _ _ _ _ _ _ _
      have L37 : ∀ (N : Nat) (mA : zMm) (v : Int) (i : Int), (zSc b m2 mA) → (1 ≤ i) → (i ≤ c) → (0 ≤ v ∧ v ≤ 320) → (v = zfd (fun a i => min a (mOu ((aK (A 0 1023) (A 2)) 5) ((aK (A 0 1023) (A 2)) 0).toNat 320 ((f + i).bmod 4294967296) (fun j => (aK (A 0 1023) (A 2)) (8 + 3 * (j / 2) + j % 2)) (fAll (aK (A 0 1023) (A 2)) ((aK (A 0 1023) (A 2)) 5)))) 1000000000 i) → ((c - i).toNat) < N → zT G mX13_mornings 4 37 [zR b, zI c, zI f, zI v, zI i, zU] [] S mA 0 0 Q9 zNX := by
        intro N
        induction N with
        | zero => intro mA v i hz i0 i1 vb hv hN; exact absurd hN (Nat.not_lt_zero _)
        | succ N ih37 =>
          intro mA v i hz i0 i1 vb hv hN
          have yA := ym2.row (fun j => hz.row j)
          refine zT.iload 4 dX13_mornings_37 rfl ?_
          refine zT.iload_n 1 dX13_mornings_39 rfl rfl ?_
          refine zT.ic_ge (tgt := 68) dX13_mornings_40 (by decide) (by first | assumption | exact zq_i _ | exact zand_i _ _ | exact zor_i _ _ | exact zN _ | omega) (by first | assumption | exact zq_i _ | exact zand_i _ _ | exact zor_i _ _ | exact zN _ | omega) (fun c40 => ?_) (fun c40 => ?_)
          · refine zT.iload_n 3 dX13_mornings_68 rfl rfl ?_
            refine zT.iret dX13_mornings_69 rfl ?_
            rw [eQ9]
            exact ⟨by rw [zite_f (by omega), hv, show i = c by omega], rfl, hI2.tr hz.inn, hE2.sc hz⟩
          · refine zT.aload_n 0 dX13_mornings_43 rfl rfl ?_
            refine zT.iload_n 2 dX13_mornings_44 rfl rfl ?_
            refine zT.iload 4 dX13_mornings_45 rfl ?_
            refine zT.iadd dX13_mornings_47 ?_
            refine zT.norm (zbm32 _) ?_
            show zT G _ _ _ _ [zI ((f + i).bmod 4294967296), zR b] _ _ _ _ _ _
            have zb9 : zi ((f + i).bmod 4294967296) := by
                          have h1 := Int.le_bmod (x := f + i) (m := 4294967296) (by omega)
                          have h2 := Int.bmod_lt (x := f + i) (m := 4294967296) (by omega)
                          unfold zi; omega
            have hmb := mOu_b (n := ((aK (A 0 1023) (A 2)) 5)) (q := ((aK (A 0 1023) (A 2)) 0).toNat) 320 (sd := (f + i).bmod 4294967296) (L := (fun j => (aK (A 0 1023) (A 2)) (8 + 3 * (j / 2) + j % 2))) (left := fAll (aK (A 0 1023) (A 2)) ((aK (A 0 1023) (A 2)) 5))
            refine zT.callV (M' := mX13_morningBy) (b := b) [zI ((f + i).bmod 4294967296)] [] dX13_mornings_48 kX13_449 rfl rfl (ci := 10) (r := (RX13, TX13, 62)) rfl (zMod.k hb) (C_X13_morningBy hb yA hk zb9) (by decide) (k' := 0) (n' := 0) (by omega) (by omega) (by decide) (fun v48 S48_ m48_ h48 => ?_) (fun _ _ _ _ h => h.elim)
            obtain ⟨rfl, eS48, o48⟩ := h48
            have eS48 := eS48.symm
            subst eS48
            show zT G _ _ _ _ [zI (mOu ((aK (A 0 1023) (A 2)) 5) ((aK (A 0 1023) (A 2)) 0).toNat 320 ((f + i).bmod 4294967296) (fun j => (aK (A 0 1023) (A 2)) (8 + 3 * (j / 2) + j % 2)) (fAll (aK (A 0 1023) (A 2)) ((aK (A 0 1023) (A 2)) 5)))] _ _ _ _ _ _
            refine zT.istore 5 dX13_mornings_51 (by decide) (zpre1 rfl (zcI _)) ?_
            show zT G _ _ _ [zR b, zI c, zI f, zI v, zI i, zI (mOu ((aK (A 0 1023) (A 2)) 5) ((aK (A 0 1023) (A 2)) 0).toNat 320 ((f + i).bmod 4294967296) (fun j => (aK (A 0 1023) (A 2)) (8 + 3 * (j / 2) + j % 2)) (fAll (aK (A 0 1023) (A 2)) ((aK (A 0 1023) (A 2)) 5)))] _ _ _ _ _ _ _
            refine zT.iload 5 dX13_mornings_53 rfl ?_
            refine zT.iload_n 3 dX13_mornings_55 rfl rfl ?_
            refine zT.ic_ge (tgt := 62) dX13_mornings_56 (by decide) (by first | assumption | exact zq_i _ | exact zand_i _ _ | exact zor_i _ _ | exact zN _ | omega) (by first | assumption | exact zq_i _ | exact zand_i _ _ | exact zor_i _ _ | exact zN _ | omega) (fun c56 => ?_) (fun c56 => ?_)
            · refine zT.iinc 4 dX13_mornings_62 rfl (by decide) (zpre1 rfl (zcI _)) ?_
              show zT G _ _ _ [zR b, zI c, zI f, zI v, zI (i + 1), zI (mOu ((aK (A 0 1023) (A 2)) 5) ((aK (A 0 1023) (A 2)) 0).toNat 320 ((f + i).bmod 4294967296) (fun j => (aK (A 0 1023) (A 2)) (8 + 3 * (j / 2) + j % 2)) (fAll (aK (A 0 1023) (A 2)) ((aK (A 0 1023) (A 2)) 5)))] _ _ _ _ _ _ _
              refine zT.goto (tgt := 37) dX13_mornings_65 (by decide) ?_
              refine zT.loc (V' := [zR b, zI c, zI f, zI v, zI (i + 1), zU]) ?_ ⟨Or.inr rfl, Or.inr rfl, Or.inr rfl, Or.inr rfl, Or.inr rfl, Or.inl rfl, trivial⟩
              exact ih37 _ _ _ (by exact hz.tr o48) (by first | assumption | exact zq_i _ | exact zand_i _ _ | exact zor_i _ _ | exact zN _ | omega) (by first | assumption | exact zq_i _ | exact zand_i _ _ | exact zor_i _ _ | exact zN _ | omega) (by omega) (by rw [zfd_s (by omega), ← hv]; show _ = min v _; omega) (by omega)
            · refine zT.iload 5 dX13_mornings_59 rfl ?_
              refine zT.istore_n 3 dX13_mornings_61 rfl (by decide) (zpre1 rfl (zcI _)) ?_
              show zT G _ _ _ [zR b, zI c, zI f, zI (mOu ((aK (A 0 1023) (A 2)) 5) ((aK (A 0 1023) (A 2)) 0).toNat 320 ((f + i).bmod 4294967296) (fun j => (aK (A 0 1023) (A 2)) (8 + 3 * (j / 2) + j % 2)) (fAll (aK (A 0 1023) (A 2)) ((aK (A 0 1023) (A 2)) 5))), zI i, zI (mOu ((aK (A 0 1023) (A 2)) 5) ((aK (A 0 1023) (A 2)) 0).toNat 320 ((f + i).bmod 4294967296) (fun j => (aK (A 0 1023) (A 2)) (8 + 3 * (j / 2) + j % 2)) (fAll (aK (A 0 1023) (A 2)) ((aK (A 0 1023) (A 2)) 5)))] _ _ _ _ _ _ _
              refine zT.iinc 4 dX13_mornings_62 rfl (by decide) (zpre1 rfl (zcI _)) ?_
              show zT G _ _ _ [zR b, zI c, zI f, zI (mOu ((aK (A 0 1023) (A 2)) 5) ((aK (A 0 1023) (A 2)) 0).toNat 320 ((f + i).bmod 4294967296) (fun j => (aK (A 0 1023) (A 2)) (8 + 3 * (j / 2) + j % 2)) (fAll (aK (A 0 1023) (A 2)) ((aK (A 0 1023) (A 2)) 5))), zI (i + 1), zI (mOu ((aK (A 0 1023) (A 2)) 5) ((aK (A 0 1023) (A 2)) 0).toNat 320 ((f + i).bmod 4294967296) (fun j => (aK (A 0 1023) (A 2)) (8 + 3 * (j / 2) + j % 2)) (fAll (aK (A 0 1023) (A 2)) ((aK (A 0 1023) (A 2)) 5)))] _ _ _ _ _ _ _
              refine zT.goto (tgt := 37) dX13_mornings_65 (by decide) ?_
              refine zT.loc (V' := [zR b, zI c, zI f, zI (mOu ((aK (A 0 1023) (A 2)) 5) ((aK (A 0 1023) (A 2)) 0).toNat 320 ((f + i).bmod 4294967296) (fun j => (aK (A 0 1023) (A 2)) (8 + 3 * (j / 2) + j % 2)) (fAll (aK (A 0 1023) (A 2)) ((aK (A 0 1023) (A 2)) 5))), zI (i + 1), zU]) ?_ ⟨Or.inr rfl, Or.inr rfl, Or.inr rfl, Or.inr rfl, Or.inr rfl, Or.inl rfl, trivial⟩
              exact ih37 _ _ _ (by exact hz.tr o48) (by first | assumption | exact zq_i _ | exact zand_i _ _ | exact zor_i _ _ | exact zN _ | omega) (by first | assumption | exact zq_i _ | exact zand_i _ _ | exact zor_i _ _ | exact zN _ | omega) (by omega) (by rw [zfd_s (by omega), ← hv]; show _ = min v _; omega) (by omega)
      exact L37 _ _ _ _ (by exact o30) (by first | assumption | exact zq_i _ | exact zand_i _ _ | exact zor_i _ _ | exact zN _ | omega) (by first | assumption | exact zq_i _ | exact zand_i _ _ | exact zor_i _ _ | exact zN _ | omega) (by omega) (by exact hf1.symm) (Nat.lt_succ_self _)
    · refine zT.iconst dX13_mornings_26 ?_
      refine zT.iret dX13_mornings_27 rfl ?_
      rw [eQ9]
      exact ⟨by rw [zite_t (by omega)], rfl, hI2, hE2⟩

