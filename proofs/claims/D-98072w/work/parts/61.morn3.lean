/-! morningOf (written by gen/m_morn3.py) -/
theorem rel.fl39 {S : zS} {m : zMm} {x a e : Int} {f : Int → Int} {A : zMm} (h : rel S m x A) : rel S (zfl m (x + 39) a e f) x A :=
  h.set_no zGr.rf (fun k' j _ _ hi _ => zfl_ne (fun q => by have e9 : k' = 39 := by omega
                                                            subst e9
                                                            unfold rIn at hi
                                                            omega)) (fun c _ _ j => zfl_ne (by omega)) (fun _ _ _ => rfl) trivial
theorem C_X1_morningOf {G : zG}  {S : zS} {m : zMm} {x : Int} {A : zMm} (hR : rel S m x A) {from_ : Int} (hf : zi from_) : zC G mX1_morningOf 3 0 0 [zR x, zI from_] S m (zPo S m x (some (zI (mOu ((aK (A 0 1023) (A 2)) 5) ((aK (A 0 1023) (A 2)) 0).toNat 320 from_ (fun j => (aK (A 0 1023) (A 2)) (8 + 3 * (j / 2) + j % 2)) (fAll (aK (A 0 1023) (A 2)) ((aK (A 0 1023) (A 2)) 5))))) A) zNX := by
  have hk := hR.vki.1
  have hKi := (hR.ki.2.1).ki hk
  have hKn := hKi.nu
  have hkr := hR.ki.2.1
  have hkf := hkr.2.1
  have hk0 := hk.1
  obtain ⟨Q, hQ⟩ : ∃ Q : Nat, (Q : Int) + 1 = (aK (A 0 1023) (A 2)) 0 := ⟨((aK (A 0 1023) (A 2)) 0 - 1).toNat, by omega⟩
  refine zC.of [zR x, zI from_, zU, zU, zU, zU, zU, zU] (by decide) rfl (zEn1 (zcR _) (zEn1 (zcI _) (zEn0 (by simp)))) rfl ?_
  refine zT.aload_n 0 dX1_morningOf_0 rfl rfl ?_
  refine zT.iload_n 1 dX1_morningOf_1 rfl rfl ?_
  refine zT.putI dX1_morningOf_2 fX1_456 zs_36 rfl (zPan.k hR.sh) (j := 36) (by decide) rfl (by first | assumption | exact zq_i _ | exact zand_i _ _ | exact zor_i _ _ | exact zxor_i _ _ | exact zN _ | omega) ?_
  obtain ⟨m1, em1⟩ : ∃ z, z = zup m x 36 from_ := ⟨_, rfl⟩
  rw [← em1]
  refine zT.aload_n 0 dX1_morningOf_5 rfl rfl ?_
  refine zT.getR dX1_morningOf_6 fX1_66 rfl (zPan.k hR.sh) (j := 7) (by decide) rfl ?_
  have r6 : m1 x 7 = m x 7 := by rw [em1, zup_ne (by omega)]
  rw [r6]
  refine zT.getF dX1_morningOf_9 fX1_243 rfl (zKit.k hR.ki.2.1.1) (j := 2) (by decide) rfl (zKit.f202 hR.ki.2.1.1) ?_
  refine zT.iconst dX1_morningOf_12 ?_
  refine zT.aload_n 0 dX1_morningOf_13 rfl rfl ?_
  refine zT.getF dX1_morningOf_14 fX1_138 rfl (zPan.k hR.sh) (j := 25) (by decide) rfl (zPan.f25 hR.sh) ?_
  refine zT.iconst dX1_morningOf_17 ?_
  refine zT.aload_n 0 dX1_morningOf_18 rfl rfl ?_
  refine zT.getF dX1_morningOf_19 fX1_138 rfl (zPan.k hR.sh) (j := 25) (by decide) rfl (zPan.f25 hR.sh) ?_
  refine zT.alen dX1_morningOf_22 (by rw [(zPan.a25 hR.sh)]; decide) ?_
  rw [(zPan.n25 hR.sh)]
  refine zT.acopy dX1_morningOf_23 q862 (zKit.a202 hR.ki.2.1.1) (zPan.a25 hR.sh) (Or.inl rfl) (by first | assumption | exact zq_i _ | exact zand_i _ _ | exact zor_i _ _ | exact zxor_i _ _ | exact zN _ | omega) (by first | assumption | exact zq_i _ | exact zand_i _ _ | exact zor_i _ _ | exact zxor_i _ _ | exact zN _ | omega) (by first | assumption | exact zq_i _ | exact zand_i _ _ | exact zor_i _ _ | exact zxor_i _ _ | exact zN _ | omega) (by rw [(zKit.n202 hR.ki.2.1.1)]; first | assumption | exact zq_i _ | exact zand_i _ _ | exact zor_i _ _ | exact zxor_i _ _ | exact zN _ | omega) (by rw [(zPan.n25 hR.sh)]; first | assumption | exact zq_i _ | exact zand_i _ _ | exact zor_i _ _ | exact zxor_i _ _ | exact zN _ | omega) (by decide) (by decide) ?_
  obtain ⟨m2, em2⟩ : ∃ z, z = zfl m1 (x + 39) 0 (0 + 16) (fun j => m1 ((m x 7) + 3) (0 + (j - 0))) := ⟨_, rfl⟩
  rw [← em2]
  refine zT.aload_n 0 dX1_morningOf_26 rfl rfl ?_
  refine zT.getR dX1_morningOf_27 fX1_66 rfl (zPan.k hR.sh) (j := 7) (by decide) rfl ?_
  have r27 : m2 x 7 = m x 7 := by rw [em2, zfl_ne (by omega), em1, zup_ne (by omega)]
  rw [r27]
  have hRm : rel S m2 x A := by rw [em2, em1]; exact (hR.upX (by omega)).fl39
  have hKi2 : zKi m2 (m x 7) := by have q := (hRm.ki.2.1).ki hk; rw [r27] at q; exact q
  refine zT.callV (M' := mX3_all) (b := (m x 7)) [] [] dX1_morningOf_30 kX1_361 rfl rfl (ci := 2) (r := (RX3, TX3, 16)) rfl (zKit.k hR.ki.2.1.1) (C_X3_all hR.ki.2.1.1 hKi2) (by decide) (k' := 0) (n' := 0) (by omega) (by omega) (by decide) (zdk (v := some (zI (zall m2 (m x 7) (m2 (m x 7) 208)))) ?_) (fun _ _ _ _ h => h.elim)
  show zT G _ _ _ _ [zI (zall m2 (m x 7) (m2 (m x 7) 208))] _ _ _ _ _ _
  refine zT.istore_n 2 dX1_morningOf_33 rfl (by decide) (zpre1 rfl (zcI _)) ?_
  show zT G _ _ _ [zR x, zI from_, zI (zall m2 (m x 7) (m2 (m x 7) 208)), zU, zU, zU, zU, zU] _ _ _ _ _ _ _
  have hza : zall m2 (m x 7) (m2 (m x 7) 208) = fAll (aK (A 0 1023) (A 2)) ((aK (A 0 1023) (A 2)) 5) := by
      have q := hRm.ki.2.1
      rw [r27] at q
      rw [zall_a q (by rw [q.2.1.2.2.2.2.2.1]; omega), q.2.1.2.2.2.2.2.1]
  rw [hza]
  obtain ⟨R, hR9⟩ : ∃ z, z = mOu ((aK (A 0 1023) (A 2)) 5) ((aK (A 0 1023) (A 2)) 0).toNat 320 from_ (fun j => (aK (A 0 1023) (A 2)) (8 + 3 * (j / 2) + j % 2)) (fAll (aK (A 0 1023) (A 2)) ((aK (A 0 1023) (A 2)) 5)) := ⟨_, rfl⟩
  rw [← hR9]
  have eQ : ((aK (A 0 1023) (A 2)) 0).toNat = Q + 1 := by omega
  rw [eQ] at hR9
  have hLe : fLe ((aK (A 0 1023) (A 2)) 5) (m2 (x + 39)) (fun j => (aK (A 0 1023) (A 2)) (8 + 3 * (j / 2) + j % 2)) := by
      intro j a b
      rw [em2, zfl_at (by omega) (by omega)]
      show m1 (m x 7 + 3) (0 + (j - 0)) = (aK (A 0 1023) (A 2)) (8 + 3 * (j / 2) + j % 2)
      rw [show 0 + (j - 0) = j by omega, em1, zup_ne (by omega)]
      obtain ⟨e1, e2, e3⟩ := hkr.2.2.1 (j / 2) (by omega) (by omega)
      rcases (by omega : j % 2 = 0 ∨ j % 2 = 1) with q | q
      · rw [q, ← e1]; congr 1; omega
      · rw [q, ← e2]; congr 1; omega
  have hO : fOk ((aK (A 0 1023) (A 2)) 5) (m2 (x + 39)) (fAll (aK (A 0 1023) (A 2)) ((aK (A 0 1023) (A 2)) 5)) := by
      refine ⟨fun j a b => ?_, ?_⟩
      · rw [hLe j a b]
        have e := hk.2.1 (j / 2) (by omega) (by omega)
        show 0 ≤ (aK (A 0 1023) (A 2)) (8 + 3 * (j / 2) + j % 2) ∧ (aK (A 0 1023) (A 2)) (8 + 3 * (j / 2) + j % 2) ≤ 20
        rcases (by omega : j % 2 = 0 ∨ j % 2 = 1) with q | q <;> rw [q] <;> omega
      · rw [zs_to (by omega)]
        exact zs_c (fun s a b => by
          rw [hLe (2 * s) (by omega) (by omega), hLe (2 * s + 1) (by omega) (by omega)]
          show _ = (aK (A 0 1023) (A 2)) (8 + 3 * (2 * s / 2) + 2 * s % 2) + (aK (A 0 1023) (A 2)) (8 + 3 * ((2 * s + 1) / 2) + (2 * s + 1) % 2)
          rw [show 2 * s / 2 = s by omega, show 2 * s % 2 = 0 by omega, show (2 * s + 1) / 2 = s by omega, show (2 * s + 1) % 2 = 1 by omega])
  have hOb := hO.p (by omega)
  refine zT.iconst dX1_morningOf_34 ?_
  refine zT.istore_n 3 dX1_morningOf_35 rfl (by decide) (zpre1 rfl (zcI _)) ?_
  show zT G _ _ _ [zR x, zI from_, zI (fAll (aK (A 0 1023) (A 2)) ((aK (A 0 1023) (A 2)) 5)), zI 0, zU, zU, zU, zU] _ _ _ _ _ _ _
  have L36 : ∀ (N : Nat) (mA : zMm) (left : Int) (v : Int), (rel S mA x A) → (zOut x m mA) → (fOk ((aK (A 0 1023) (A 2)) 5) (mA (x + 39)) left) → (left ≤ 320) → (0 ≤ v) → (v + left ≤ 320) → (v + mOu ((aK (A 0 1023) (A 2)) 5) (Q + 1) 320 (mA x 36) (mA (x + 39)) left = R) → left.toNat < N → zT G mX1_morningOf 3 36 [zR x, zU, zI left, zI v, zU, zU, zU, zU] [] S mA 0 0 (zPo S m x (some (zI R)) A) zNX := by
    intro N
    induction N with
    | zero => intro mA left v hr hz ho hl v0 v1 hv hN; exact absurd hN (Nat.not_lt_zero _)
    | succ N ih36 =>
      intro mA left v hr hz ho hl v0 v1 hv hN
      have hlb := ho.p (by omega)
      obtain ⟨T, hT0⟩ : ∃ z, z = mIn ((aK (A 0 1023) (A 2)) 5) (Q + 1) (mA x 36) (mA (x + 39)) left 0 := ⟨_, rfl⟩
      refine zT.iload_n 2 dX1_morningOf_36 rfl rfl ?_
      refine zT.if_le (tgt := 168) dX1_morningOf_37 (by decide) (by first | assumption | exact zq_i _ | exact zand_i _ _ | exact zor_i _ _ | exact zxor_i _ _ | exact zN _ | omega) (fun c37 => ?_) (fun c37 => ?_)
      · refine zT.iload_n 3 dX1_morningOf_168 rfl rfl ?_
        refine zT.iret dX1_morningOf_169 rfl ?_
        exact ⟨by rw [← hv, mOu_0 (by omega), Int.add_zero], zGr.rf, hr, hz⟩
      · refine zT.iconst dX1_morningOf_40 ?_
        refine zT.istore 4 dX1_morningOf_41 (by decide) (zpre1 rfl (zcI _)) ?_
        show zT G _ _ _ [zR x, zU, zI left, zI v, zI 0, zU, zU, zU] _ _ _ _ _ _ _
        refine zT.iconst dX1_morningOf_43 ?_
        refine zT.istore 5 dX1_morningOf_44 (by decide) (zpre1 rfl (zcI _)) ?_
        show zT G _ _ _ [zR x, zU, zI left, zI v, zI 0, zI 0, zU, zU] _ _ _ _ _ _ _
        have L46 : ∀ (N : Nat) (mB : zMm) (l : Int) (on : Int) (p : Int), (rel S mB x A) → (zOut x m mB) → (fOk ((aK (A 0 1023) (A 2)) 5) (mB (x + 39)) l) → (l ≤ left) → (zi on) → (0 ≤ p) → (p ≤ (Q : Int) + 1) → (mIn ((aK (A 0 1023) (A 2)) 5) (Q + 1 - p.toNat) (mB x 36) (mB (x + 39)) l on = T) → (((Q : Int) + 1 - p).toNat) < N → zT G mX1_morningOf 3 46 [zR x, zU, zI l, zI v, zI on, zI p, zU, zU] [] S mB 0 0 (zPo S m x (some (zI R)) A) zNX := by
          intro N
          induction N with
          | zero => intro mB l on p hq hy hk1 hl1 hon p0 p1 hT hN; exact absurd hN (Nat.not_lt_zero _)
          | succ N ih46 =>
            intro mB l on p hq hy hk1 hl1 hon p0 p1 hT hN
            have hlb2 := hk1.p (by omega)
            have hpq : mB (mB x 7) 211 = (aK (A 0 1023) (A 2)) 0 := hq.ki.2.1.2.1.1
            refine zT.iload 5 dX1_morningOf_46 rfl ?_
            refine zT.aload_n 0 dX1_morningOf_48 rfl rfl ?_
            refine zT.getR dX1_morningOf_49 fX1_66 rfl (zPan.k hq.sh) (j := 7) (by decide) rfl ?_
            refine zT.getI dX1_morningOf_52 fX1_332 rfl (zKit.k hq.ki.2.1.1) (j := 11) (by decide) rfl (fun z52 => ?_)
            refine zT.ic_ge (tgt := 162) dX1_morningOf_55 (by decide) (by first | assumption | exact zq_i _ | exact zand_i _ _ | exact zor_i _ _ | exact zxor_i _ _ | exact zN _ | omega) (by first | assumption | exact zq_i _ | exact zand_i _ _ | exact zor_i _ _ | exact zxor_i _ _ | exact zN _ | omega) (fun c55 => ?_) (fun c55 => ?_)
            · have hq2 : rel S mB x A := hq
              have hy2 : zOut x m mB := hy
              have eT : (mB x 36, mB (x + 39), l) = T := by
                rw [← hT, show Q + 1 - p.toNat = 0 by omega]
                rfl
              have hk2 := hk1
              have hlt : l < left := by have q := mIn_l (q := Q) (sd := mA x 36) (by omega) ho (by omega); rw [← hT0, ← eT] at q; exact q
              have hv2 : v + 1 + mOu ((aK (A 0 1023) (A 2)) 5) (Q + 1) 320 (mB x 36) (mB (x + 39)) l = R := by rw [← hv, mOu_1 (by omega) ho (by omega) (by omega), ← hT0, ← eT]; exact Int.add_assoc v 1 _
              refine zT.iinc 3 dX1_morningOf_162 rfl (by decide) (zpre1 rfl (zcI _)) ?_
              show zT G _ _ _ [zR x, zU, zI l, zI (v + 1), zI on, zI p, zU, zU] _ _ _ _ _ _ _
              refine zT.goto (tgt := 36) dX1_morningOf_165 (by decide) ?_
              refine zT.loc (V' := [zR x, zU, zI l, zI (v + 1), zU, zU, zU, zU]) ?_ ⟨Or.inr rfl, Or.inr rfl, Or.inr rfl, Or.inr rfl, Or.inl rfl, Or.inl rfl, Or.inr rfl, Or.inr rfl, trivial⟩
              exact ih36 _ _ _ (by exact hq2) (by exact hy2) (by exact hk2) (by omega) (by omega) (by omega) (by exact hv2) (by omega)
            · obtain ⟨c, hc⟩ : ∃ z, z = acnt (fCd (mB (x + 39)) on) ((aK (A 0 1023) (A 2)) 5) := ⟨_, rfl⟩
              obtain ⟨D, hD⟩ : ∃ z, z = zite (c = 0) (-1) (fKt (mB (x + 39)) on (fDr (mB x 36) c) ((aK (A 0 1023) (A 2)) 5)) := ⟨_, rfl⟩
              obtain ⟨E, hE⟩ : ∃ z, z = zite (c = 0) (mB x 36) (fSd (mB x 36)) := ⟨_, rfl⟩
              have hL9 := hk1.1
              refine zT.aload_n 0 dX1_morningOf_58 rfl rfl ?_
              refine zT.iload 4 dX1_morningOf_59 rfl ?_
              refine zT.callV (M' := mX1_drawn) (b := x) [zI on] [] dX1_morningOf_61 kX1_463 rfl rfl (ci := 0) (r := (RX1, TX1, 42)) rfl (zPan.k hq.sh) (C_X1_drawn2 hq (by assumption) hL9 hc hD hE) (by decide) (k' := 0) (n' := 0) (by omega) (by omega) (by decide) (zdk (v := some (zI D)) ?_) (fun _ _ _ _ h => h.elim)
              show zT G _ _ _ _ [zI D] _ _ _ _ _ _
              obtain ⟨m3, em3⟩ : ∃ z, z = zup mB x 36 E := ⟨_, rfl⟩
              rw [← em3]
              have hcb := acnt_b (P := fCd (mB (x + 39)) on) (k := ((aK (A 0 1023) (A 2)) 5)) (by omega)
              have hzD : -1 ≤ D ∧ D < 8 := by
                              by_cases h0 : c = 0
                              · rw [zite_t h0] at hD; omega
                              · rw [zite_f h0] at hD
                                have hfd := fDr_b (s := mB x 36) (n := c) (by omega)
                                have hkt := fKt_i (L := mB (x + 39)) (on := on) (n := ((aK (A 0 1023) (A 2)) 5)) (k := fDr (mB x 36) c) (by omega) hfd.1 (by omega)
                                omega
              refine zT.istore 6 dX1_morningOf_64 (by decide) (zpre1 rfl (zcI _)) ?_
              show zT G _ _ _ [zR x, zU, zI l, zI v, zI on, zI p, zI D, zU] _ _ _ _ _ _ _
              refine zT.iload 6 dX1_morningOf_66 rfl ?_
              refine zT.iconst dX1_morningOf_68 ?_
              refine zT.ic_ne (tgt := 75) dX1_morningOf_69 (by decide) (by first | assumption | exact zq_i _ | exact zand_i _ _ | exact zor_i _ _ | exact zxor_i _ _ | exact zN _ | omega) (by first | assumption | exact zq_i _ | exact zand_i _ _ | exact zor_i _ _ | exact zxor_i _ _ | exact zN _ | omega) (fun c69 => ?_) (fun c69 => ?_)
              · have h0 : ¬ c = 0 := fun q => by rw [zite_t q] at hD; omega
                rw [zite_f h0] at hD hE
                have hcb := acnt_b (P := fCd (mB (x + 39)) on) (k := ((aK (A 0 1023) (A 2)) 5)) (by omega)
                have hfd := fDr_b (s := mB x 36) (n := c) (by omega)
                have hkt := fKt_i (L := mB (x + 39)) (on := on) (n := ((aK (A 0 1023) (A 2)) 5)) (k := fDr (mB x 36) c) (by omega) hfd.1 (by omega)
                rw [← hD] at hkt
                obtain ⟨d0, d1, d2⟩ := hkt
                have ha0 := hk1.1 (2 * D) (by omega) (by omega)
                have ha1 := hk1.1 (2 * D + 1) (by omega) (by omega)
                have hde := fDr_b (s := E) (n := 2) (by omega)
                have ds := d2.2
                refine zT.iload 4 dX1_morningOf_75 rfl ?_
                refine zT.iconst dX1_morningOf_77 ?_
                refine zT.iload 6 dX1_morningOf_78 rfl ?_
                refine zT.ishl dX1_morningOf_80 (by first | assumption | exact zq_i _ | exact zand_i _ _ | exact zor_i _ _ | exact zxor_i _ _ | exact zN _ | omega) (by first | assumption | exact zq_i _ | exact zand_i _ _ | exact zor_i _ _ | exact zxor_i _ _ | exact zN _ | omega) ?_
                refine zT.ior dX1_morningOf_81 ?_
                refine zT.istore 4 dX1_morningOf_82 (by decide) (zpre1 rfl (zcI _)) ?_
                show zT G _ _ _ [zR x, zU, zI l, zI v, zI (zor on (1 * 2 ^ D.toNat)), zI p, zI D, zU] _ _ _ _ _ _ _
                refine zT.aload_n 0 dX1_morningOf_84 rfl rfl ?_
                refine zT.getF dX1_morningOf_85 fX1_138 rfl (zPan.k hq.sh) (j := 25) (by decide) rfl (zPan.f25 hq.sh) ?_
                refine zT.iconst dX1_morningOf_88 ?_
                refine zT.iload 6 dX1_morningOf_89 rfl ?_
                refine zT.imul dX1_morningOf_91 ?_
                refine zT.iald dX1_morningOf_92 (zPan.a25 hq.sh) (by first | assumption | exact zq_i _ | exact zand_i _ _ | exact zor_i _ _ | exact zxor_i _ _ | exact zN _ | omega) (by rw [(zPan.n25 hq.sh)]; first | assumption | exact zq_i _ | exact zand_i _ _ | exact zor_i _ _ | exact zxor_i _ _ | exact zN _ | omega) (fun z92 => ?_)
                have r92 : m3 (x + 39) (2 * D) = mB (x + 39) (2 * D) := by rw [em3, zup_ne (by omega)]
                rw [r92] at z92 ⊢
                refine zT.if_le (tgt := 118) dX1_morningOf_93 (by decide) (by first | assumption | exact zq_i _ | exact zand_i _ _ | exact zor_i _ _ | exact zxor_i _ _ | exact zN _ | omega) (fun c93 => ?_) (fun c93 => ?_)
                · refine zT.aload_n 0 dX1_morningOf_118 rfl rfl ?_
                  refine zT.getF dX1_morningOf_119 fX1_138 rfl (zPan.k hq.sh) (j := 25) (by decide) rfl (zPan.f25 hq.sh) ?_
                  refine zT.iconst dX1_morningOf_122 ?_
                  refine zT.iload 6 dX1_morningOf_123 rfl ?_
                  refine zT.imul dX1_morningOf_125 ?_
                  refine zT.iald dX1_morningOf_126 (zPan.a25 hq.sh) (by first | assumption | exact zq_i _ | exact zand_i _ _ | exact zor_i _ _ | exact zxor_i _ _ | exact zN _ | omega) (by rw [(zPan.n25 hq.sh)]; first | assumption | exact zq_i _ | exact zand_i _ _ | exact zor_i _ _ | exact zxor_i _ _ | exact zN _ | omega) (fun z126 => ?_)
                  have r126 : m3 (x + 39) (2 * D) = mB (x + 39) (2 * D) := by rw [em3, zup_ne (by omega)]
                  rw [r126] at z126 ⊢
                  refine zT.if_le (tgt := 134) dX1_morningOf_127 (by decide) (by first | assumption | exact zq_i _ | exact zand_i _ _ | exact zor_i _ _ | exact zxor_i _ _ | exact zN _ | omega) (fun c127 => ?_) (fun c127 => ?_)
                  · refine zT.iconst dX1_morningOf_134 ?_
                    refine zT.istore 7 dX1_morningOf_135 (by decide) (zpre1 rfl (zcI _)) ?_
                    show zT G _ _ _ [zR x, zU, zI l, zI v, zI (zor on (1 * 2 ^ D.toNat)), zI p, zI D, zI 1] _ _ _ _ _ _ _
                    refine zT.aload_n 0 dX1_morningOf_137 rfl rfl ?_
                    refine zT.getF dX1_morningOf_138 fX1_138 rfl (zPan.k hq.sh) (j := 25) (by decide) rfl (zPan.f25 hq.sh) ?_
                    refine zT.iconst dX1_morningOf_141 ?_
                    refine zT.iload 6 dX1_morningOf_142 rfl ?_
                    refine zT.imul dX1_morningOf_144 ?_
                    refine zT.iload 7 dX1_morningOf_145 rfl ?_
                    refine zT.iadd dX1_morningOf_147 ?_
                    refine zT.dup2 dX1_morningOf_148 (zcI _) (zcR _) ?_
                    refine zT.iald dX1_morningOf_149 (zPan.a25 hq.sh) (by first | assumption | exact zq_i _ | exact zand_i _ _ | exact zor_i _ _ | exact zxor_i _ _ | exact zN _ | omega) (by rw [(zPan.n25 hq.sh)]; first | assumption | exact zq_i _ | exact zand_i _ _ | exact zor_i _ _ | exact zxor_i _ _ | exact zN _ | omega) (fun z149 => ?_)
                    have r149 : m3 (x + 39) ((2 * D) + 1) = mB (x + 39) ((2 * D) + 1) := by rw [em3, zup_ne (by omega)]
                    rw [r149] at z149 ⊢
                    have hk9 := hk1.1 (2 * D + (1)) (by omega) (by omega)
                    refine zT.iconst dX1_morningOf_150 ?_
                    refine zT.isub dX1_morningOf_151 ?_
                    refine zT.iast dX1_morningOf_152 (zPan.a25 hq.sh) (by first | assumption | exact zq_i _ | exact zand_i _ _ | exact zor_i _ _ | exact zxor_i _ _ | exact zN _ | omega) (by rw [(zPan.n25 hq.sh)]; first | assumption | exact zq_i _ | exact zand_i _ _ | exact zor_i _ _ | exact zxor_i _ _ | exact zN _ | omega) (by first | assumption | exact zq_i _ | exact zand_i _ _ | exact zor_i _ _ | exact zxor_i _ _ | exact zN _ | omega) ?_
                    obtain ⟨m4, em4⟩ : ∃ z, z = zup m3 (x + 39) ((2 * D) + 1) ((mB (x + 39) ((2 * D) + 1)) - 1) := ⟨_, rfl⟩
                    rw [← em4]
                    have hse : 1 = fSe (mB (x + 39)) E D := by unfold fSe; first | (exfalso; omega) | (rw [zite_t (by omega)]; first | done | rw [em3, zup_at]) | (rw [zite_f (by omega), zite_t (by omega)]) | (rw [zite_f (by omega), zite_f (by omega)])
                    have hss : m4 x 36 = fSs (mB (x + 39)) E D := by
                      unfold fSs
                      first
                        | (exfalso; omega)
                        | (rw [zite_f (by omega), em4, zup_ne (by omega), em3, zup_at])
                    have hld : m4 (x + 39) = fLd (mB (x + 39)) (2 * D + (1)) := by
                      funext j
                      unfold fLd
                      by_cases q : j = 2 * D + (1)
                      · rw [zite_t q, q, em4]
                        first | exact zup_at | (rw [Int.add_zero]; exact zup_at)
                      · rw [zite_f q, em4, zup_ne (fun z => q (by omega)), em3, zup_ne (by omega)]
                    have hq_m3 : rel S m3 x A := by rw [em3]; exact hq.upX (by omega)
                    have hy_m3 : zOut x m m3 := by rw [em3]; exact hy.up (by omega)
                    have hq_m4 : rel S m4 x A := by rw [em4]; exact hq_m3.upI (k := 39) (by omega) (by omega) (fun z => by unfold rIn at z; omega)
                    have hy_m4 : zOut x m m4 := by rw [em4]; exact hy_m3.up (by omega)
                    have hq2 : rel S m4 x A := hq_m4
                    have hy2 : zOut x m m4 := hy_m4
                    refine zT.iinc 2 dX1_morningOf_153 rfl (by decide) (zpreU rfl) ?_
                    show zT G _ _ _ [zR x, zU, zI (l + (-1)), zI v, zI (zor on (1 * 2 ^ D.toNat)), zI p, zI D, zI 1] _ _ _ _ _ _ _
                    have hp9 : 0 < mB (x + 39) (2 * D + (1)) := by have q := fSe_p (sd := E) d2 (by omega) (by omega); rw [← hse] at q; exact q
                    have hk2 : fOk ((aK (A 0 1023) (A 2)) 5) (m4 (x + 39)) (l + (-1)) := by rw [hld]; exact hk1.ld (by omega) (by omega) hp9
                    have hTn : mIn ((aK (A 0 1023) (A 2)) 5) (Q + 1 - (p + 1).toNat) (m4 x 36) (m4 (x + 39)) (l + (-1)) (zor on (1 * 2 ^ D.toNat)) = T := by
                      rw [show l + (-1) = l - 1 by omega, hld, hss, ← hT, show Q + 1 - p.toNat = (Q + 1 - (p + 1).toNat) + 1 by omega, mIn_s (s := D) (c := 2 * D + (1)) (by rw [← hc]; exact h0) (by rw [← hc]; exact hD) (by rw [hse, hE]), ← hE]
                    refine zT.iinc 5 dX1_morningOf_156 rfl (by decide) (zpre1 rfl (zcI _)) ?_
                    show zT G _ _ _ [zR x, zU, zI (l + (-1)), zI v, zI (zor on (1 * 2 ^ D.toNat)), zI (p + 1), zI D, zI 1] _ _ _ _ _ _ _
                    refine zT.goto (tgt := 46) dX1_morningOf_159 (by decide) ?_
                    refine zT.loc (V' := [zR x, zU, zI (l + (-1)), zI v, zI (zor on (1 * 2 ^ D.toNat)), zI (p + 1), zU, zU]) ?_ ⟨Or.inr rfl, Or.inr rfl, Or.inr rfl, Or.inr rfl, Or.inr rfl, Or.inr rfl, Or.inl rfl, Or.inl rfl, trivial⟩
                    exact ih46 _ _ _ _ (by exact hq2) (by exact hy2) (by exact hk2) (by omega) (by exact zor_i _ _) (by omega) (by omega) (by exact hTn) (by omega)
                  · refine zT.iconst dX1_morningOf_130 ?_
                    refine zT.goto (tgt := 135) dX1_morningOf_131 (by decide) ?_
                    refine zT.istore 7 dX1_morningOf_135 (by decide) (zpre1 rfl (zcI _)) ?_
                    show zT G _ _ _ [zR x, zU, zI l, zI v, zI (zor on (1 * 2 ^ D.toNat)), zI p, zI D, zI 0] _ _ _ _ _ _ _
                    refine zT.aload_n 0 dX1_morningOf_137 rfl rfl ?_
                    refine zT.getF dX1_morningOf_138 fX1_138 rfl (zPan.k hq.sh) (j := 25) (by decide) rfl (zPan.f25 hq.sh) ?_
                    refine zT.iconst dX1_morningOf_141 ?_
                    refine zT.iload 6 dX1_morningOf_142 rfl ?_
                    refine zT.imul dX1_morningOf_144 ?_
                    refine zT.iload 7 dX1_morningOf_145 rfl ?_
                    refine zT.iadd dX1_morningOf_147 ?_
                    refine zT.dup2 dX1_morningOf_148 (zcI _) (zcR _) ?_
                    refine zT.iald dX1_morningOf_149 (zPan.a25 hq.sh) (by first | assumption | exact zq_i _ | exact zand_i _ _ | exact zor_i _ _ | exact zxor_i _ _ | exact zN _ | omega) (by rw [(zPan.n25 hq.sh)]; first | assumption | exact zq_i _ | exact zand_i _ _ | exact zor_i _ _ | exact zxor_i _ _ | exact zN _ | omega) (fun z149 => ?_)
                    have r149 : m3 (x + 39) ((2 * D) + 0) = mB (x + 39) ((2 * D) + 0) := by rw [em3, zup_ne (by omega)]
                    rw [r149] at z149 ⊢
                    have hk9 := hk1.1 (2 * D + (0)) (by omega) (by omega)
                    refine zT.iconst dX1_morningOf_150 ?_
                    refine zT.isub dX1_morningOf_151 ?_
                    refine zT.iast dX1_morningOf_152 (zPan.a25 hq.sh) (by first | assumption | exact zq_i _ | exact zand_i _ _ | exact zor_i _ _ | exact zxor_i _ _ | exact zN _ | omega) (by rw [(zPan.n25 hq.sh)]; first | assumption | exact zq_i _ | exact zand_i _ _ | exact zor_i _ _ | exact zxor_i _ _ | exact zN _ | omega) (by first | assumption | exact zq_i _ | exact zand_i _ _ | exact zor_i _ _ | exact zxor_i _ _ | exact zN _ | omega) ?_
                    obtain ⟨m5, em5⟩ : ∃ z, z = zup m3 (x + 39) ((2 * D) + 0) ((mB (x + 39) ((2 * D) + 0)) - 1) := ⟨_, rfl⟩
                    rw [← em5]
                    have hse : 0 = fSe (mB (x + 39)) E D := by unfold fSe; first | (exfalso; omega) | (rw [zite_t (by omega)]; first | done | rw [em3, zup_at]) | (rw [zite_f (by omega), zite_t (by omega)]) | (rw [zite_f (by omega), zite_f (by omega)])
                    have hss : m5 x 36 = fSs (mB (x + 39)) E D := by
                      unfold fSs
                      first
                        | (exfalso; omega)
                        | (rw [zite_f (by omega), em5, zup_ne (by omega), em3, zup_at])
                    have hld : m5 (x + 39) = fLd (mB (x + 39)) (2 * D + (0)) := by
                      funext j
                      unfold fLd
                      by_cases q : j = 2 * D + (0)
                      · rw [zite_t q, q, em5]
                        first | exact zup_at | (rw [Int.add_zero]; exact zup_at)
                      · rw [zite_f q, em5, zup_ne (fun z => q (by omega)), em3, zup_ne (by omega)]
                    have hq_m3 : rel S m3 x A := by rw [em3]; exact hq.upX (by omega)
                    have hy_m3 : zOut x m m3 := by rw [em3]; exact hy.up (by omega)
                    have hq_m5 : rel S m5 x A := by rw [em5]; exact hq_m3.upI (k := 39) (by omega) (by omega) (fun z => by unfold rIn at z; omega)
                    have hy_m5 : zOut x m m5 := by rw [em5]; exact hy_m3.up (by omega)
                    have hq2 : rel S m5 x A := hq_m5
                    have hy2 : zOut x m m5 := hy_m5
                    refine zT.iinc 2 dX1_morningOf_153 rfl (by decide) (zpreU rfl) ?_
                    show zT G _ _ _ [zR x, zU, zI (l + (-1)), zI v, zI (zor on (1 * 2 ^ D.toNat)), zI p, zI D, zI 0] _ _ _ _ _ _ _
                    have hp9 : 0 < mB (x + 39) (2 * D + (0)) := by have q := fSe_p (sd := E) d2 (by omega) (by omega); rw [← hse] at q; exact q
                    have hk2 : fOk ((aK (A 0 1023) (A 2)) 5) (m5 (x + 39)) (l + (-1)) := by rw [hld]; exact hk1.ld (by omega) (by omega) hp9
                    have hTn : mIn ((aK (A 0 1023) (A 2)) 5) (Q + 1 - (p + 1).toNat) (m5 x 36) (m5 (x + 39)) (l + (-1)) (zor on (1 * 2 ^ D.toNat)) = T := by
                      rw [show l + (-1) = l - 1 by omega, hld, hss, ← hT, show Q + 1 - p.toNat = (Q + 1 - (p + 1).toNat) + 1 by omega, mIn_s (s := D) (c := 2 * D + (0)) (by rw [← hc]; exact h0) (by rw [← hc]; exact hD) (by rw [hse, hE]), ← hE]
                    refine zT.iinc 5 dX1_morningOf_156 rfl (by decide) (zpre1 rfl (zcI _)) ?_
                    show zT G _ _ _ [zR x, zU, zI (l + (-1)), zI v, zI (zor on (1 * 2 ^ D.toNat)), zI (p + 1), zI D, zI 0] _ _ _ _ _ _ _
                    refine zT.goto (tgt := 46) dX1_morningOf_159 (by decide) ?_
                    refine zT.loc (V' := [zR x, zU, zI (l + (-1)), zI v, zI (zor on (1 * 2 ^ D.toNat)), zI (p + 1), zU, zU]) ?_ ⟨Or.inr rfl, Or.inr rfl, Or.inr rfl, Or.inr rfl, Or.inr rfl, Or.inr rfl, Or.inl rfl, Or.inl rfl, trivial⟩
                    exact ih46 _ _ _ _ (by exact hq2) (by exact hy2) (by exact hk2) (by omega) (by exact zor_i _ _) (by omega) (by omega) (by exact hTn) (by omega)
                · refine zT.aload_n 0 dX1_morningOf_96 rfl rfl ?_
                  refine zT.getF dX1_morningOf_97 fX1_138 rfl (zPan.k hq.sh) (j := 25) (by decide) rfl (zPan.f25 hq.sh) ?_
                  refine zT.iconst dX1_morningOf_100 ?_
                  refine zT.iload 6 dX1_morningOf_101 rfl ?_
                  refine zT.imul dX1_morningOf_103 ?_
                  refine zT.iconst dX1_morningOf_104 ?_
                  refine zT.iadd dX1_morningOf_105 ?_
                  refine zT.iald dX1_morningOf_106 (zPan.a25 hq.sh) (by first | assumption | exact zq_i _ | exact zand_i _ _ | exact zor_i _ _ | exact zxor_i _ _ | exact zN _ | omega) (by rw [(zPan.n25 hq.sh)]; first | assumption | exact zq_i _ | exact zand_i _ _ | exact zor_i _ _ | exact zxor_i _ _ | exact zN _ | omega) (fun z106 => ?_)
                  have r106 : m3 (x + 39) ((2 * D) + 1) = mB (x + 39) ((2 * D) + 1) := by rw [em3, zup_ne (by omega)]
                  rw [r106] at z106 ⊢
                  refine zT.if_le (tgt := 118) dX1_morningOf_107 (by decide) (by first | assumption | exact zq_i _ | exact zand_i _ _ | exact zor_i _ _ | exact zxor_i _ _ | exact zN _ | omega) (fun c107 => ?_) (fun c107 => ?_)
                  · refine zT.aload_n 0 dX1_morningOf_118 rfl rfl ?_
                    refine zT.getF dX1_morningOf_119 fX1_138 rfl (zPan.k hq.sh) (j := 25) (by decide) rfl (zPan.f25 hq.sh) ?_
                    refine zT.iconst dX1_morningOf_122 ?_
                    refine zT.iload 6 dX1_morningOf_123 rfl ?_
                    refine zT.imul dX1_morningOf_125 ?_
                    refine zT.iald dX1_morningOf_126 (zPan.a25 hq.sh) (by first | assumption | exact zq_i _ | exact zand_i _ _ | exact zor_i _ _ | exact zxor_i _ _ | exact zN _ | omega) (by rw [(zPan.n25 hq.sh)]; first | assumption | exact zq_i _ | exact zand_i _ _ | exact zor_i _ _ | exact zxor_i _ _ | exact zN _ | omega) (fun z126 => ?_)
                    have r126 : m3 (x + 39) (2 * D) = mB (x + 39) (2 * D) := by rw [em3, zup_ne (by omega)]
                    rw [r126] at z126 ⊢
                    refine zT.if_le (tgt := 134) dX1_morningOf_127 (by decide) (by first | assumption | exact zq_i _ | exact zand_i _ _ | exact zor_i _ _ | exact zxor_i _ _ | exact zN _ | omega) (fun c127 => ?_) (fun c127 => ?_)
                    · refine zT.iconst dX1_morningOf_134 ?_
                      refine zT.istore 7 dX1_morningOf_135 (by decide) (zpre1 rfl (zcI _)) ?_
                      show zT G _ _ _ [zR x, zU, zI l, zI v, zI (zor on (1 * 2 ^ D.toNat)), zI p, zI D, zI 1] _ _ _ _ _ _ _
                      refine zT.aload_n 0 dX1_morningOf_137 rfl rfl ?_
                      refine zT.getF dX1_morningOf_138 fX1_138 rfl (zPan.k hq.sh) (j := 25) (by decide) rfl (zPan.f25 hq.sh) ?_
                      refine zT.iconst dX1_morningOf_141 ?_
                      refine zT.iload 6 dX1_morningOf_142 rfl ?_
                      refine zT.imul dX1_morningOf_144 ?_
                      refine zT.iload 7 dX1_morningOf_145 rfl ?_
                      refine zT.iadd dX1_morningOf_147 ?_
                      refine zT.dup2 dX1_morningOf_148 (zcI _) (zcR _) ?_
                      refine zT.iald dX1_morningOf_149 (zPan.a25 hq.sh) (by first | assumption | exact zq_i _ | exact zand_i _ _ | exact zor_i _ _ | exact zxor_i _ _ | exact zN _ | omega) (by rw [(zPan.n25 hq.sh)]; first | assumption | exact zq_i _ | exact zand_i _ _ | exact zor_i _ _ | exact zxor_i _ _ | exact zN _ | omega) (fun z149 => ?_)
                      have r149 : m3 (x + 39) ((2 * D) + 1) = mB (x + 39) ((2 * D) + 1) := by rw [em3, zup_ne (by omega)]
                      rw [r149] at z149 ⊢
                      have hk9 := hk1.1 (2 * D + (1)) (by omega) (by omega)
                      refine zT.iconst dX1_morningOf_150 ?_
                      refine zT.isub dX1_morningOf_151 ?_
                      refine zT.iast dX1_morningOf_152 (zPan.a25 hq.sh) (by first | assumption | exact zq_i _ | exact zand_i _ _ | exact zor_i _ _ | exact zxor_i _ _ | exact zN _ | omega) (by rw [(zPan.n25 hq.sh)]; first | assumption | exact zq_i _ | exact zand_i _ _ | exact zor_i _ _ | exact zxor_i _ _ | exact zN _ | omega) (by first | assumption | exact zq_i _ | exact zand_i _ _ | exact zor_i _ _ | exact zxor_i _ _ | exact zN _ | omega) ?_
                      obtain ⟨m6, em6⟩ : ∃ z, z = zup m3 (x + 39) ((2 * D) + 1) ((mB (x + 39) ((2 * D) + 1)) - 1) := ⟨_, rfl⟩
                      rw [← em6]
                      have hse : 1 = fSe (mB (x + 39)) E D := by unfold fSe; first | (exfalso; omega) | (rw [zite_t (by omega)]; first | done | rw [em3, zup_at]) | (rw [zite_f (by omega), zite_t (by omega)]) | (rw [zite_f (by omega), zite_f (by omega)])
                      have hss : m6 x 36 = fSs (mB (x + 39)) E D := by
                        unfold fSs
                        first
                          | (exfalso; omega)
                          | (rw [zite_f (by omega), em6, zup_ne (by omega), em3, zup_at])
                      have hld : m6 (x + 39) = fLd (mB (x + 39)) (2 * D + (1)) := by
                        funext j
                        unfold fLd
                        by_cases q : j = 2 * D + (1)
                        · rw [zite_t q, q, em6]
                          first | exact zup_at | (rw [Int.add_zero]; exact zup_at)
                        · rw [zite_f q, em6, zup_ne (fun z => q (by omega)), em3, zup_ne (by omega)]
                      have hq_m3 : rel S m3 x A := by rw [em3]; exact hq.upX (by omega)
                      have hy_m3 : zOut x m m3 := by rw [em3]; exact hy.up (by omega)
                      have hq_m6 : rel S m6 x A := by rw [em6]; exact hq_m3.upI (k := 39) (by omega) (by omega) (fun z => by unfold rIn at z; omega)
                      have hy_m6 : zOut x m m6 := by rw [em6]; exact hy_m3.up (by omega)
                      have hq2 : rel S m6 x A := hq_m6
                      have hy2 : zOut x m m6 := hy_m6
                      refine zT.iinc 2 dX1_morningOf_153 rfl (by decide) (zpreU rfl) ?_
                      show zT G _ _ _ [zR x, zU, zI (l + (-1)), zI v, zI (zor on (1 * 2 ^ D.toNat)), zI p, zI D, zI 1] _ _ _ _ _ _ _
                      have hp9 : 0 < mB (x + 39) (2 * D + (1)) := by have q := fSe_p (sd := E) d2 (by omega) (by omega); rw [← hse] at q; exact q
                      have hk2 : fOk ((aK (A 0 1023) (A 2)) 5) (m6 (x + 39)) (l + (-1)) := by rw [hld]; exact hk1.ld (by omega) (by omega) hp9
                      have hTn : mIn ((aK (A 0 1023) (A 2)) 5) (Q + 1 - (p + 1).toNat) (m6 x 36) (m6 (x + 39)) (l + (-1)) (zor on (1 * 2 ^ D.toNat)) = T := by
                        rw [show l + (-1) = l - 1 by omega, hld, hss, ← hT, show Q + 1 - p.toNat = (Q + 1 - (p + 1).toNat) + 1 by omega, mIn_s (s := D) (c := 2 * D + (1)) (by rw [← hc]; exact h0) (by rw [← hc]; exact hD) (by rw [hse, hE]), ← hE]
                      refine zT.iinc 5 dX1_morningOf_156 rfl (by decide) (zpre1 rfl (zcI _)) ?_
                      show zT G _ _ _ [zR x, zU, zI (l + (-1)), zI v, zI (zor on (1 * 2 ^ D.toNat)), zI (p + 1), zI D, zI 1] _ _ _ _ _ _ _
                      refine zT.goto (tgt := 46) dX1_morningOf_159 (by decide) ?_
                      refine zT.loc (V' := [zR x, zU, zI (l + (-1)), zI v, zI (zor on (1 * 2 ^ D.toNat)), zI (p + 1), zU, zU]) ?_ ⟨Or.inr rfl, Or.inr rfl, Or.inr rfl, Or.inr rfl, Or.inr rfl, Or.inr rfl, Or.inl rfl, Or.inl rfl, trivial⟩
                      exact ih46 _ _ _ _ (by exact hq2) (by exact hy2) (by exact hk2) (by omega) (by exact zor_i _ _) (by omega) (by omega) (by exact hTn) (by omega)
                    · refine zT.iconst dX1_morningOf_130 ?_
                      refine zT.goto (tgt := 135) dX1_morningOf_131 (by decide) ?_
                      refine zT.istore 7 dX1_morningOf_135 (by decide) (zpre1 rfl (zcI _)) ?_
                      show zT G _ _ _ [zR x, zU, zI l, zI v, zI (zor on (1 * 2 ^ D.toNat)), zI p, zI D, zI 0] _ _ _ _ _ _ _
                      refine zT.aload_n 0 dX1_morningOf_137 rfl rfl ?_
                      refine zT.getF dX1_morningOf_138 fX1_138 rfl (zPan.k hq.sh) (j := 25) (by decide) rfl (zPan.f25 hq.sh) ?_
                      refine zT.iconst dX1_morningOf_141 ?_
                      refine zT.iload 6 dX1_morningOf_142 rfl ?_
                      refine zT.imul dX1_morningOf_144 ?_
                      refine zT.iload 7 dX1_morningOf_145 rfl ?_
                      refine zT.iadd dX1_morningOf_147 ?_
                      refine zT.dup2 dX1_morningOf_148 (zcI _) (zcR _) ?_
                      refine zT.iald dX1_morningOf_149 (zPan.a25 hq.sh) (by first | assumption | exact zq_i _ | exact zand_i _ _ | exact zor_i _ _ | exact zxor_i _ _ | exact zN _ | omega) (by rw [(zPan.n25 hq.sh)]; first | assumption | exact zq_i _ | exact zand_i _ _ | exact zor_i _ _ | exact zxor_i _ _ | exact zN _ | omega) (fun z149 => ?_)
                      have r149 : m3 (x + 39) ((2 * D) + 0) = mB (x + 39) ((2 * D) + 0) := by rw [em3, zup_ne (by omega)]
                      rw [r149] at z149 ⊢
                      have hk9 := hk1.1 (2 * D + (0)) (by omega) (by omega)
                      refine zT.iconst dX1_morningOf_150 ?_
                      refine zT.isub dX1_morningOf_151 ?_
                      refine zT.iast dX1_morningOf_152 (zPan.a25 hq.sh) (by first | assumption | exact zq_i _ | exact zand_i _ _ | exact zor_i _ _ | exact zxor_i _ _ | exact zN _ | omega) (by rw [(zPan.n25 hq.sh)]; first | assumption | exact zq_i _ | exact zand_i _ _ | exact zor_i _ _ | exact zxor_i _ _ | exact zN _ | omega) (by first | assumption | exact zq_i _ | exact zand_i _ _ | exact zor_i _ _ | exact zxor_i _ _ | exact zN _ | omega) ?_
                      obtain ⟨m7, em7⟩ : ∃ z, z = zup m3 (x + 39) ((2 * D) + 0) ((mB (x + 39) ((2 * D) + 0)) - 1) := ⟨_, rfl⟩
                      rw [← em7]
                      have hse : 0 = fSe (mB (x + 39)) E D := by unfold fSe; first | (exfalso; omega) | (rw [zite_t (by omega)]; first | done | rw [em3, zup_at]) | (rw [zite_f (by omega), zite_t (by omega)]) | (rw [zite_f (by omega), zite_f (by omega)])
                      have hss : m7 x 36 = fSs (mB (x + 39)) E D := by
                        unfold fSs
                        first
                          | (exfalso; omega)
                          | (rw [zite_f (by omega), em7, zup_ne (by omega), em3, zup_at])
                      have hld : m7 (x + 39) = fLd (mB (x + 39)) (2 * D + (0)) := by
                        funext j
                        unfold fLd
                        by_cases q : j = 2 * D + (0)
                        · rw [zite_t q, q, em7]
                          first | exact zup_at | (rw [Int.add_zero]; exact zup_at)
                        · rw [zite_f q, em7, zup_ne (fun z => q (by omega)), em3, zup_ne (by omega)]
                      have hq_m3 : rel S m3 x A := by rw [em3]; exact hq.upX (by omega)
                      have hy_m3 : zOut x m m3 := by rw [em3]; exact hy.up (by omega)
                      have hq_m7 : rel S m7 x A := by rw [em7]; exact hq_m3.upI (k := 39) (by omega) (by omega) (fun z => by unfold rIn at z; omega)
                      have hy_m7 : zOut x m m7 := by rw [em7]; exact hy_m3.up (by omega)
                      have hq2 : rel S m7 x A := hq_m7
                      have hy2 : zOut x m m7 := hy_m7
                      refine zT.iinc 2 dX1_morningOf_153 rfl (by decide) (zpreU rfl) ?_
                      show zT G _ _ _ [zR x, zU, zI (l + (-1)), zI v, zI (zor on (1 * 2 ^ D.toNat)), zI p, zI D, zI 0] _ _ _ _ _ _ _
                      have hp9 : 0 < mB (x + 39) (2 * D + (0)) := by have q := fSe_p (sd := E) d2 (by omega) (by omega); rw [← hse] at q; exact q
                      have hk2 : fOk ((aK (A 0 1023) (A 2)) 5) (m7 (x + 39)) (l + (-1)) := by rw [hld]; exact hk1.ld (by omega) (by omega) hp9
                      have hTn : mIn ((aK (A 0 1023) (A 2)) 5) (Q + 1 - (p + 1).toNat) (m7 x 36) (m7 (x + 39)) (l + (-1)) (zor on (1 * 2 ^ D.toNat)) = T := by
                        rw [show l + (-1) = l - 1 by omega, hld, hss, ← hT, show Q + 1 - p.toNat = (Q + 1 - (p + 1).toNat) + 1 by omega, mIn_s (s := D) (c := 2 * D + (0)) (by rw [← hc]; exact h0) (by rw [← hc]; exact hD) (by rw [hse, hE]), ← hE]
                      refine zT.iinc 5 dX1_morningOf_156 rfl (by decide) (zpre1 rfl (zcI _)) ?_
                      show zT G _ _ _ [zR x, zU, zI (l + (-1)), zI v, zI (zor on (1 * 2 ^ D.toNat)), zI (p + 1), zI D, zI 0] _ _ _ _ _ _ _
                      refine zT.goto (tgt := 46) dX1_morningOf_159 (by decide) ?_
                      refine zT.loc (V' := [zR x, zU, zI (l + (-1)), zI v, zI (zor on (1 * 2 ^ D.toNat)), zI (p + 1), zU, zU]) ?_ ⟨Or.inr rfl, Or.inr rfl, Or.inr rfl, Or.inr rfl, Or.inr rfl, Or.inr rfl, Or.inl rfl, Or.inl rfl, trivial⟩
                      exact ih46 _ _ _ _ (by exact hq2) (by exact hy2) (by exact hk2) (by omega) (by exact zor_i _ _) (by omega) (by omega) (by exact hTn) (by omega)
                  · refine zT.aload_n 0 dX1_morningOf_110 rfl rfl ?_
                    refine zT.iconst dX1_morningOf_111 ?_
                    refine zT.callV (M' := mX1_draw) (b := x) [zI 2] [] dX1_morningOf_112 kX1_460 rfl rfl (ci := 0) (r := (RX1, TX1, 42)) rfl (zPan.k hq.sh) (C_X1_draw hq.sh (by omega) (by omega)) (by decide) (k' := 0) (n' := 0) (by omega) (by omega) (by decide) (zdk (v := some (zI (fDr (m3 x 36) 2))) ?_) (fun _ _ _ _ h => h.elim)
                    show zT G _ _ _ _ [zI (fDr (m3 x 36) 2)] _ _ _ _ _ _
                    obtain ⟨m8, em8⟩ : ∃ z, z = zup m3 x 36 (fSd (m3 x 36)) := ⟨_, rfl⟩
                    rw [← em8]
                    rw [show m3 x 36 = E by rw [em3, zup_at]]
                    show zT G _ _ _ _ [zI (fDr E 2)] _ _ _ _ _ _
                    refine zT.goto (tgt := 135) dX1_morningOf_115 (by decide) ?_
                    refine zT.istore 7 dX1_morningOf_135 (by decide) (zpre1 rfl (zcI _)) ?_
                    show zT G _ _ _ [zR x, zU, zI l, zI v, zI (zor on (1 * 2 ^ D.toNat)), zI p, zI D, zI (fDr E 2)] _ _ _ _ _ _ _
                    refine zT.aload_n 0 dX1_morningOf_137 rfl rfl ?_
                    refine zT.getF dX1_morningOf_138 fX1_138 rfl (zPan.k hq.sh) (j := 25) (by decide) rfl (zPan.f25 hq.sh) ?_
                    refine zT.iconst dX1_morningOf_141 ?_
                    refine zT.iload 6 dX1_morningOf_142 rfl ?_
                    refine zT.imul dX1_morningOf_144 ?_
                    refine zT.iload 7 dX1_morningOf_145 rfl ?_
                    refine zT.iadd dX1_morningOf_147 ?_
                    refine zT.dup2 dX1_morningOf_148 (zcI _) (zcR _) ?_
                    refine zT.iald dX1_morningOf_149 (zPan.a25 hq.sh) (by first | assumption | exact zq_i _ | exact zand_i _ _ | exact zor_i _ _ | exact zxor_i _ _ | exact zN _ | omega) (by rw [(zPan.n25 hq.sh)]; first | assumption | exact zq_i _ | exact zand_i _ _ | exact zor_i _ _ | exact zxor_i _ _ | exact zN _ | omega) (fun z149 => ?_)
                    have r149 : m8 (x + 39) ((2 * D) + (fDr E 2)) = mB (x + 39) ((2 * D) + (fDr E 2)) := by rw [em8, zup_ne (by omega), em3, zup_ne (by omega)]
                    rw [r149] at z149 ⊢
                    have hk9 := hk1.1 (2 * D + (fDr E 2)) (by omega) (by omega)
                    refine zT.iconst dX1_morningOf_150 ?_
                    refine zT.isub dX1_morningOf_151 ?_
                    refine zT.iast dX1_morningOf_152 (zPan.a25 hq.sh) (by first | assumption | exact zq_i _ | exact zand_i _ _ | exact zor_i _ _ | exact zxor_i _ _ | exact zN _ | omega) (by rw [(zPan.n25 hq.sh)]; first | assumption | exact zq_i _ | exact zand_i _ _ | exact zor_i _ _ | exact zxor_i _ _ | exact zN _ | omega) (by first | assumption | exact zq_i _ | exact zand_i _ _ | exact zor_i _ _ | exact zxor_i _ _ | exact zN _ | omega) ?_
                    obtain ⟨m9, em9⟩ : ∃ z, z = zup m8 (x + 39) ((2 * D) + (fDr E 2)) ((mB (x + 39) ((2 * D) + (fDr E 2))) - 1) := ⟨_, rfl⟩
                    rw [← em9]
                    have hse : fDr E 2 = fSe (mB (x + 39)) E D := by unfold fSe; first | (exfalso; omega) | (rw [zite_t (by omega)]; first | done | rw [em3, zup_at]) | (rw [zite_f (by omega), zite_t (by omega)]) | (rw [zite_f (by omega), zite_f (by omega)])
                    have hss : m9 x 36 = fSs (mB (x + 39)) E D := by
                      unfold fSs
                      first
                        | (exfalso; omega)
                        | (rw [zite_t (by omega), em9, zup_ne (by omega), em8, zup_at, em3, zup_at])
                    have hld : m9 (x + 39) = fLd (mB (x + 39)) (2 * D + (fDr E 2)) := by
                      funext j
                      unfold fLd
                      by_cases q : j = 2 * D + (fDr E 2)
                      · rw [zite_t q, q, em9]
                        first | exact zup_at | (rw [Int.add_zero]; exact zup_at)
                      · rw [zite_f q, em9, zup_ne (fun z => q (by omega)), em8, zup_ne (by omega), em3, zup_ne (by omega)]
                    have hq_m3 : rel S m3 x A := by rw [em3]; exact hq.upX (by omega)
                    have hy_m3 : zOut x m m3 := by rw [em3]; exact hy.up (by omega)
                    have hq_m8 : rel S m8 x A := by rw [em8]; exact hq_m3.upX (by omega)
                    have hy_m8 : zOut x m m8 := by rw [em8]; exact hy_m3.up (by omega)
                    have hq_m9 : rel S m9 x A := by rw [em9]; exact hq_m8.upI (k := 39) (by omega) (by omega) (fun z => by unfold rIn at z; omega)
                    have hy_m9 : zOut x m m9 := by rw [em9]; exact hy_m8.up (by omega)
                    have hq2 : rel S m9 x A := hq_m9
                    have hy2 : zOut x m m9 := hy_m9
                    refine zT.iinc 2 dX1_morningOf_153 rfl (by decide) (zpreU rfl) ?_
                    show zT G _ _ _ [zR x, zU, zI (l + (-1)), zI v, zI (zor on (1 * 2 ^ D.toNat)), zI p, zI D, zI (fDr E 2)] _ _ _ _ _ _ _
                    have hp9 : 0 < mB (x + 39) (2 * D + (fDr E 2)) := by have q := fSe_p (sd := E) d2 (by omega) (by omega); rw [← hse] at q; exact q
                    have hk2 : fOk ((aK (A 0 1023) (A 2)) 5) (m9 (x + 39)) (l + (-1)) := by rw [hld]; exact hk1.ld (by omega) (by omega) hp9
                    have hTn : mIn ((aK (A 0 1023) (A 2)) 5) (Q + 1 - (p + 1).toNat) (m9 x 36) (m9 (x + 39)) (l + (-1)) (zor on (1 * 2 ^ D.toNat)) = T := by
                      rw [show l + (-1) = l - 1 by omega, hld, hss, ← hT, show Q + 1 - p.toNat = (Q + 1 - (p + 1).toNat) + 1 by omega, mIn_s (s := D) (c := 2 * D + (fDr E 2)) (by rw [← hc]; exact h0) (by rw [← hc]; exact hD) (by rw [hse, hE]), ← hE]
                    refine zT.iinc 5 dX1_morningOf_156 rfl (by decide) (zpre1 rfl (zcI _)) ?_
                    show zT G _ _ _ [zR x, zU, zI (l + (-1)), zI v, zI (zor on (1 * 2 ^ D.toNat)), zI (p + 1), zI D, zI (fDr E 2)] _ _ _ _ _ _ _
                    refine zT.goto (tgt := 46) dX1_morningOf_159 (by decide) ?_
                    refine zT.loc (V' := [zR x, zU, zI (l + (-1)), zI v, zI (zor on (1 * 2 ^ D.toNat)), zI (p + 1), zU, zU]) ?_ ⟨Or.inr rfl, Or.inr rfl, Or.inr rfl, Or.inr rfl, Or.inr rfl, Or.inr rfl, Or.inl rfl, Or.inl rfl, trivial⟩
                    exact ih46 _ _ _ _ (by exact hq2) (by exact hy2) (by exact hk2) (by omega) (by exact zor_i _ _) (by omega) (by omega) (by exact hTn) (by omega)
              · refine zT.goto (tgt := 162) dX1_morningOf_72 (by decide) ?_
                have hq_m3 : rel S m3 x A := by rw [em3]; exact hq.upX (by omega)
                have hy_m3 : zOut x m m3 := by rw [em3]; exact hy.up (by omega)
                have hq2 : rel S m3 x A := hq_m3
                have hy2 : zOut x m m3 := hy_m3
                have eT : (m3 x 36, m3 (x + 39), l) = T := by
                  have c0 : c = 0 := Classical.byContradiction fun q => by
                    rw [zite_f q] at hD
                    have hfd := fDr_b (s := mB x 36) (n := c) (by omega)
                    have hkt := fKt_i (L := mB (x + 39)) (on := on) (n := ((aK (A 0 1023) (A 2)) 5)) (k := fDr (mB x 36) c) (by omega) hfd.1 (by omega)
                    omega
                  rw [zite_t c0] at hE
                  rw [em3, zup_at, hE, zup_fn (by omega), ← hT, mIn_0 (by rw [← hc]; exact c0)]
                have hk2 : fOk ((aK (A 0 1023) (A 2)) 5) (m3 (x + 39)) l := by rw [em3, zup_fn (by omega)]; exact hk1
                have hlt : l < left := by have q := mIn_l (q := Q) (sd := mA x 36) (by omega) ho (by omega); rw [← hT0, ← eT] at q; exact q
                have hv2 : v + 1 + mOu ((aK (A 0 1023) (A 2)) 5) (Q + 1) 320 (m3 x 36) (m3 (x + 39)) l = R := by rw [← hv, mOu_1 (by omega) ho (by omega) (by omega), ← hT0, ← eT]; exact Int.add_assoc v 1 _
                refine zT.iinc 3 dX1_morningOf_162 rfl (by decide) (zpre1 rfl (zcI _)) ?_
                show zT G _ _ _ [zR x, zU, zI l, zI (v + 1), zI on, zI p, zI D, zU] _ _ _ _ _ _ _
                refine zT.goto (tgt := 36) dX1_morningOf_165 (by decide) ?_
                refine zT.loc (V' := [zR x, zU, zI l, zI (v + 1), zU, zU, zU, zU]) ?_ ⟨Or.inr rfl, Or.inr rfl, Or.inr rfl, Or.inr rfl, Or.inl rfl, Or.inl rfl, Or.inl rfl, Or.inr rfl, trivial⟩
                exact ih36 _ _ _ (by exact hq2) (by exact hy2) (by exact hk2) (by omega) (by omega) (by omega) (by exact hv2) (by omega)
        exact L46 _ _ _ _ _ (by exact hr) (by exact hz) (by exact ho) (by omega) (by decide) (by omega) (by omega) (by rw [hT0]; rfl) (Nat.lt_succ_self _)
  refine zT.loc (V' := [zR x, zU, zI (fAll (aK (A 0 1023) (A 2)) ((aK (A 0 1023) (A 2)) 5)), zI 0, zU, zU, zU, zU]) ?_ ⟨Or.inr rfl, Or.inl rfl, Or.inr rfl, Or.inr rfl, Or.inr rfl, Or.inr rfl, Or.inr rfl, Or.inr rfl, trivial⟩
  exact L36 _ _ _ _ (by exact hRm) (by exact fun a h0 h1 j => by rw [em2, zfl_ne (by omega), em1, zup_ne (by omega)]) (by exact hO) (by omega) (by omega) (by omega) (by rw [Int.zero_add, mOu_c (by omega) _ _ hLe, show m2 x 36 = from_ by rw [em2, zfl_ne (by omega), em1, zup_at], hR9]) (Nat.lt_succ_self _)

