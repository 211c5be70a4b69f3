/-! brown: the class (written by gen/m_brown.py) -/
theorem C_X1_taken {G : zG} {S : zS} {m : zMm} {x : Int} (hx : zPan S x) : zC G mX1_taken 0 0 0 [zR x] S m (zDet none S (zup (zup m x 2 (m x 1)) x 1 0)) zNX := by
  refine zC.of [zR x] (by decide) rfl (zEn1 (zcR _) (zEn0 (by simp))) rfl ?_
  obtain ⟨Q9, eQ9⟩ : ∃ z : zQt, z = (zDet none S (zup (zup m x 2 (m x 1)) x 1 0)) := ⟨_, rfl⟩
  rw [← eQ9]
  refine zT.aload_n 0 dX1_taken_0 rfl rfl ?_
  refine zT.aload_n 0 dX1_taken_1 rfl rfl ?_
  refine zT.getI dX1_taken_2 fX1_191 rfl (zPan.k hx) (j := 1) (by decide) rfl (fun z2 => ?_)
  refine zT.putI dX1_taken_5 fX1_198 zs_2 rfl (zPan.k hx) (j := 2) (by decide) rfl (by first | assumption | exact zq_i _ | exact zand_i _ _ | exact zor_i _ _ | exact zxor_i _ _ | exact zN _ | omega) ?_
  obtain ⟨m1, em1⟩ : ∃ z, z = zup m x 2 (m x 1) := ⟨_, rfl⟩
  rw [← em1]
  refine zT.aload_n 0 dX1_taken_8 rfl rfl ?_
  refine zT.iconst dX1_taken_9 ?_
  refine zT.putI dX1_taken_10 fX1_191 zs_1 rfl (zPan.k hx) (j := 1) (by decide) rfl (by first | assumption | exact zq_i _ | exact zand_i _ _ | exact zor_i _ _ | exact zxor_i _ _ | exact zN _ | omega) ?_
  obtain ⟨m2, em2⟩ : ∃ z, z = zup m1 x 1 0 := ⟨_, rfl⟩
  rw [← em2]
  refine zT.vret dX1_taken_13 rfl ?_
  rw [eQ9]
  exact ⟨rfl, rfl, by rw [em2, em1]⟩

theorem zbm255 {v : Int} (h : 0 ≤ v ∧ v ≤ 255) : zand (v.bmod 256) 255 = v := by
  rw [zand_255]
  have e : v.bmod 256 % ((256 : Nat) : Int) = v % ((256 : Nat) : Int) := Int.bmod_emod
  omega
theorem rel.take {S : zS} {m : zMm} {x : Int} {A : zMm} (h : rel S m x A) : rel S (zup (zup m x 2 (m x 1)) x 1 0) x (zup A 0 1002 0) := (h.upX (i := 2) (by omega)).upLen (by omega)
theorem C_X1_one_2 {G : zG} {S : zS} {m : zMm} {x : Int} {A : zMm} (hR : rel S m x A) {s : Int} (s0 : 0 ≤ s) (s1 : s < 640) : zC G mX1_one_2 0 0 0 [zR x, zI s] S m (zDet (some (zI (A 1 s))) S m) zNX := by
  have ht := hR.tp.2 s s0 s1
  have hv := hR.vtp.2 s s0 s1
  refine zC.of [zR x, zI s] (by decide) rfl (zEn1 (zcR _) (zEn1 (zcI _) (zEn0 (by simp)))) rfl ?_
  refine zT.aload_n 0 dX1_one_2_0 rfl rfl ?_
  refine zT.getF dX1_one_2_1 fX1_9 rfl (zPan.k hR.sh) (j := 0) (by decide) rfl (zPan.f0 hR.sh) ?_
  refine zT.iload_n 1 dX1_one_2_4 rfl rfl ?_
  refine zT.bald dX1_one_2_5 (zPan.a0 hR.sh) (by first | assumption | exact zq_i _ | exact zand_i _ _ | exact zor_i _ _ | exact zN _ | omega) (by rw [(zPan.n0 hR.sh)]; first | assumption | exact zq_i _ | exact zand_i _ _ | exact zor_i _ _ | exact zN _ | omega) (fun z5 => ?_)
  refine zT.sipush dX1_one_2_6 ?_
  refine zT.iand dX1_one_2_9 ?_
  refine zT.iret dX1_one_2_10 rfl ?_
  exact ⟨by rw [ht, zbm255 hv], rfl, rfl⟩

theorem zGr.z {S S2 : zS} {a : Int} (h : zGr S S2) (hz : zk S2 a = 0) : zk S a = 0 := by
  rcases Nat.eq_zero_or_pos (zk S a) with q | q
  · exact q
  · have := (h.2.1 a (by omega)).1
    omega
noncomputable def fBr (T : Int → Int) (n mm p : Int) : Int := zite (((0 ≤ mm ∧ mm ≤ 10) ∧ (1 ≤ p ∧ p ≤ 4) ∧ (1 ≤ n ∧ n ≤ 5)) ∧ ∀ j, 0 ≤ j → j < n → T j ≤ 3) (bRw (fTd T n) p mm.toNat (fTd T n)) (-1)
theorem C_X1_brown {G : zG} {S : zS} {m : zMm} {x : Int} {A : zMm} (hR : rel S m x A) {mm p : Int} (hmm : zi mm) (hp : zi p) : zC G mX1_brown 2 12 12288 [zR x, zI mm, zI p] S m (zPo S m x (some (zJ (fBr (A 1) (A 0 1002) mm p))) (zup A 0 1002 0)) zNX := by
  refine zC.of [zR x, zI mm, zI p, zU, zU, zU, zU, zU, zU, zU] (by decide) rfl (zEn1 (zcR _) (zEn1 (zcI _) (zEn1 (zcI _) (zEn0 (by simp))))) rfl ?_
  obtain ⟨Q9, eQ9⟩ : ∃ z : zQt, z = (zPo S m x (some (zJ (fBr (A 1) (A 0 1002) mm p))) (zup A 0 1002 0)) := ⟨_, rfl⟩
  rw [← eQ9]
  refine zT.aload_n 0 dX1_brown_0 rfl rfl ?_
  refine zT.callV (M' := mX1_taken) (b := x) [] [] dX1_brown_1 kX1_204 rfl rfl (ci := 0) (r := (RX1, TX1, 42)) rfl (zPan.k hR.sh) (C_X1_taken hR.sh) (by decide) (k' := 12) (n' := 12288) (by omega) (by omega) (by decide) (zdk (v := none) ?_) (fun _ _ _ _ h => h.elim)
  show zT G _ _ _ _ [] _ _ _ _ _ _
  obtain ⟨m1, em1⟩ : ∃ z, z = zup (zup m x 2 (m x 1)) x 1 0 := ⟨_, rfl⟩
  rw [← em1]
  have hQ0 : rel S m1 x (zup A 0 1002 0) := by rw [em1]; exact hR.take
  have ho0 : zOut x m m1 := by rw [em1]; exact (zOut.rf.up (by omega)).up (by omega)
  have hsz : m1 x 2 = A 0 1002 := by rw [em1, zup_ne (by omega), zup_at]; exact hR.tp.1
  have hnb := hR.vtp.1
  have hv9 : ∀ j, 0 ≤ j → j < 640 → 0 ≤ A 1 j ∧ A 1 j ≤ 255 := hR.vtp.2
  refine zT.iload_n 1 dX1_brown_4 rfl rfl ?_
  refine zT.iconst dX1_brown_5 ?_
  refine zT.bipush dX1_brown_6 ?_
  refine zT.callS (M' := mX1_isIn) [zI mm, zI 0, zI 10] [] dX1_brown_8 kX1_231 rfl rfl (C_X1_isIn (by first | assumption | exact zq_i _ | exact zand_i _ _ | exact zor_i _ _ | exact zN _ | omega) (by first | assumption | exact zq_i _ | exact zand_i _ _ | exact zor_i _ _ | exact zN _ | omega) (by first | assumption | exact zq_i _ | exact zand_i _ _ | exact zor_i _ _ | exact zN _ | omega)) (by decide) (k' := 12) (n' := 12288) (by omega) (by omega) (by decide) (zdk (v := some (zI (zq (0 ≤ mm ∧ mm ≤ 10)))) ?_) (fun _ _ _ _ h => h.elim)
  show zT G _ _ _ _ [zI (zq (0 ≤ mm ∧ mm ≤ 10))] _ _ _ _ _ _
  refine zT.if_eqB (tgt := 35) dX1_brown_11 (by decide) (fun c11 => ?_) (fun c11 => ?_)
  · refine zT.ldc2 (-1) q1146 (by decide +kernel) dX1_brown_35 ?_
    refine zT.lret dX1_brown_38 rfl ?_
    rw [eQ9]
    exact ⟨by unfold fBr; rw [zite_f (fun z => by have := z.1; omega)], zGr.rf, hQ0, ho0⟩
  · refine zT.iload_n 2 dX1_brown_14 rfl rfl ?_
    refine zT.iconst dX1_brown_15 ?_
    refine zT.iconst dX1_brown_16 ?_
    refine zT.callS (M' := mX1_isIn) [zI p, zI 1, zI 4] [] dX1_brown_17 kX1_231 rfl rfl (C_X1_isIn (by first | assumption | exact zq_i _ | exact zand_i _ _ | exact zor_i _ _ | exact zN _ | omega) (by first | assumption | exact zq_i _ | exact zand_i _ _ | exact zor_i _ _ | exact zN _ | omega) (by first | assumption | exact zq_i _ | exact zand_i _ _ | exact zor_i _ _ | exact zN _ | omega)) (by decide) (k' := 12) (n' := 12288) (by omega) (by omega) (by decide) (zdk (v := some (zI (zq (1 ≤ p ∧ p ≤ 4)))) ?_) (fun _ _ _ _ h => h.elim)
    show zT G _ _ _ _ [zI (zq (1 ≤ p ∧ p ≤ 4))] _ _ _ _ _ _
    refine zT.if_eqB (tgt := 35) dX1_brown_20 (by decide) (fun c20 => ?_) (fun c20 => ?_)
    · refine zT.ldc2 (-1) q1146 (by decide +kernel) dX1_brown_35 ?_
      refine zT.lret dX1_brown_38 rfl ?_
      rw [eQ9]
      exact ⟨by unfold fBr; rw [zite_f (fun z => by have := z.1; omega)], zGr.rf, hQ0, ho0⟩
    · refine zT.aload_n 0 dX1_brown_23 rfl rfl ?_
      refine zT.getI dX1_brown_24 fX1_198 rfl (zPan.k hQ0.sh) (j := 2) (by decide) rfl (fun z24 => ?_)
      rw [hsz]
      show zT G _ _ _ _ [zI (A 0 1002)] _ _ _ _ _ _
      refine zT.iconst dX1_brown_27 ?_
      refine zT.iconst dX1_brown_28 ?_
      refine zT.callS (M' := mX1_isIn) [zI (A 0 1002), zI 1, zI 5] [] dX1_brown_29 kX1_231 rfl rfl (C_X1_isIn (by first | assumption | exact zq_i _ | exact zand_i _ _ | exact zor_i _ _ | exact zN _ | omega) (by first | assumption | exact zq_i _ | exact zand_i _ _ | exact zor_i _ _ | exact zN _ | omega) (by first | assumption | exact zq_i _ | exact zand_i _ _ | exact zor_i _ _ | exact zN _ | omega)) (by decide) (k' := 12) (n' := 12288) (by omega) (by omega) (by decide) (zdk (v := some (zI (zq (1 ≤ (A 0 1002) ∧ (A 0 1002) ≤ 5)))) ?_) (fun _ _ _ _ h => h.elim)
      show zT G _ _ _ _ [zI (zq (1 ≤ (A 0 1002) ∧ (A 0 1002) ≤ 5))] _ _ _ _ _ _
      refine zT.if_neB (tgt := 39) dX1_brown_32 (by decide) (fun c32 => ?_) (fun c32 => ?_)
      · refine zT.iconst dX1_brown_39 ?_
        refine zT.istore_n 3 dX1_brown_40 rfl (by decide) (zpre1 rfl (zcI _)) ?_
        show zT G _ _ _ [zR x, zI mm, zI p, zI 0, zU, zU, zU, zU, zU, zU] _ _ _ _ _ _ _
        refine zT.iconst dX1_brown_41 ?_
        refine zT.istore 4 dX1_brown_42 (by decide) (zpre1 rfl (zcI _)) ?_
        show zT G _ _ _ [zR x, zI mm, zI p, zI 0, zI 0, zU, zU, zU, zU, zU] _ _ _ _ _ _ _
        have L44 : ∀ (N : Nat) (s : Int) (g : Int), (0 ≤ s) → (s ≤ A 0 1002) → (g = fTd (A 1) s) → (∀ j, 0 ≤ j → j < s → A 1 j ≤ 3) → ((A 0 1002 - s).toNat) < N → zT G mX1_brown 2 44 [zR x, zI mm, zI p, zI g, zI s, zU, zU, zU, zU, zU] [] S m1 12 12288 Q9 zNX := by
          intro N
          induction N with
          | zero => intro s g s0 s1 hg hT hN; exact absurd hN (Nat.not_lt_zero _)
          | succ N ih44 =>
            intro s g s0 s1 hg hT hN
            have hv9 : ∀ j, 0 ≤ j → j < 640 → 0 ≤ A 1 j ∧ A 1 j ≤ 255 := hR.vtp.2
            have hgi : zi g := by rw [hg]; have q := fTd_i (T := A 1) s0 (by omega) (fun j a b => ⟨(hv9 j a (by omega)).1, hT j a b⟩); unfold zi; omega
            refine zT.iload 4 dX1_brown_44 rfl ?_
            refine zT.aload_n 0 dX1_brown_46 rfl rfl ?_
            refine zT.getI dX1_brown_47 fX1_198 rfl (zPan.k hQ0.sh) (j := 2) (by decide) rfl (fun z47 => ?_)
            rw [hsz]
            show zT G _ _ _ _ [zI (A 0 1002), zI s] _ _ _ _ _ _
            refine zT.ic_ge (tgt := 87) dX1_brown_50 (by decide) (by first | assumption | exact zq_i _ | exact zand_i _ _ | exact zor_i _ _ | exact zN _ | omega) (by first | assumption | exact zq_i _ | exact zand_i _ _ | exact zor_i _ _ | exact zN _ | omega) (fun c50 => ?_) (fun c50 => ?_)
            · have hsn : s = A 0 1002 := by omega
              rw [hsn] at hg hT
              have gb := fTd_i (T := A 1) (n := A 0 1002) (by omega) (by omega) (fun j a b => ⟨(hv9 j a (by omega)).1, hT j a b⟩)
              rw [← hg] at gb
              refine zT.iload_n 3 dX1_brown_87 rfl rfl ?_
              refine zT.iconst dX1_brown_88 ?_
              refine zT.iadd dX1_brown_89 ?_
              refine zT.wfS (fun w90 => ?_)
              refine zT.wfX (fun u90 => ?_)
              refine zT.newa (κ := 102) dX1_brown_90 rfl (by decide) q323 (by first | assumption | exact zq_i _ | exact zand_i _ _ | exact zor_i _ _ | exact zN _ | omega) (by first | assumption | exact zq_i _ | exact zand_i _ _ | exact zor_i _ _ | exact zN _ | omega) (k' := 10) (n' := (10 * 1024)) (by omega) (by omega) ?_
              obtain ⟨p90, ep90⟩ : ∃ z, z = zx S := ⟨_, rfl⟩
              rw [← ep90]
              obtain ⟨S2, eS2⟩ : ∃ z, z = zal S 102 (g + 1) := ⟨_, rfl⟩
              rw [← eS2]
              have gS2 : zGr S S2 := by rw [eS2]; exact zGr.al (zfr0 w90)
              have kS2 : zk S2 p90 = 102 := by rw [eS2, zk_al, ep90, if_pos rfl]
              have nS2 : zn S2 p90 = g + 1 := by rw [eS2, zn_al, ep90, if_pos rfl]
              have xS2 : zx S2 = p90 + 1 := by rw [eS2, zx_al, ep90]
              have zS2 : zk S p90 = 0 := by rw [ep90]; exact zfr0 w90
              obtain ⟨m3, em3⟩ : ∃ z, z = znw m1 102 p90 := ⟨_, rfl⟩
              rw [← em3]
              refine zT.astore 4 dX1_brown_92 (by decide) (zpre1 rfl (zcI _)) ?_
              show zT G _ _ _ [zR x, zI mm, zI p, zI g, zR p90, zU, zU, zU, zU, zU] _ _ _ _ _ _ _
              refine zT.aload 4 dX1_brown_94 rfl ?_
              refine zT.iconst dX1_brown_96 ?_
              refine zT.lconst dX1_brown_97 ?_
              show zT G _ _ _ _ (zJ 1 :: _) _ _ _ _ _ _
              refine zT.last dX1_brown_98 kS2 (by first | assumption | exact zq_i _ | exact zand_i _ _ | exact zor_i _ _ | exact zN _ | omega) (by rw [nS2]; first | assumption | exact zq_i _ | exact zand_i _ _ | exact zor_i _ _ | exact zN _ | omega) (by first | assumption | exact zq_i _ | exact zand_i _ _ | exact zor_i _ _ | exact zN _ | omega) ?_
              obtain ⟨m4, em4⟩ : ∃ z, z = zup m3 p90 0 1 := ⟨_, rfl⟩
              rw [← em4]
              have hwd := hR.wd.1
              have hQ2 : rel S m3 x (zup A 0 1002 0) := by rw [em3]; exact hQ0.nwN zS2 (by omega)
              have hQ3 : rel S m4 x (zup A 0 1002 0) := by rw [em4]; exact hQ2.upN zS2 (by omega)
              have ho3 : zOut x m m4 := by rw [em4, em3]; exact (ho0.nw (by omega)).up (by omega)
              have hW3 : ∀ t, 0 ≤ t → t ≤ g → m4 p90 t = bRw g p (0 : Int).toNat t := fun t a b => by
                              rw [em4]
                              show _ = if t = 0 then 1 else 0
                              by_cases z : t = 0
                              · rw [z, zup_at, if_pos rfl]
                              · rw [zup_ne (fun y => z y.2), em3, znw_at, zdf_i (by omega), if_neg z]
              refine zT.iconst dX1_brown_99 ?_
              refine zT.istore 5 dX1_brown_100 (by decide) (zpre1 rfl (zcR _)) ?_
              show zT G _ _ _ [zR x, zI mm, zI p, zI g, zR p90, zI 0, zU, zU, zU, zU] _ _ _ _ _ _ _
              have L102 : ∀ (N : Nat) (SA : zS) (mA : zMm) (wy : Int) (i : Int) (f : Nat), (zGr S SA) → (rel S mA x (zup A 0 1002 0)) → (zOut x m mA) → (zk SA wy = 102) → (zn SA wy = g + 1) → (zk S wy = 0) → (x + 91 ≤ wy) → (0 ≤ i) → ((f : Int) = mm - i) → (∀ t, 0 ≤ t → t ≤ g → mA wy t = bRw g p i.toNat t) → f < N → zT G mX1_brown 2 102 [zR x, zI mm, zI p, zI g, zR wy, zI i, zU, zU, zU, zU] [] SA mA f (f * 1024) Q9 zNX := by
                intro N
                induction N with
                | zero => intro SA mA wy i f hgA hQ hoA kw nw wz wb i0 hf hW hN; exact absurd hN (Nat.not_lt_zero _)
                | succ N ih102 =>
                  intro SA mA wy i f hgA hQ hoA kw nw wz wb i0 hf hW hN
                  refine zT.iload 5 dX1_brown_102 rfl ?_
                  refine zT.iload_n 1 dX1_brown_104 rfl rfl ?_
                  refine zT.ic_ge (tgt := 219) dX1_brown_105 (by decide) (by first | assumption | exact zq_i _ | exact zand_i _ _ | exact zor_i _ _ | exact zN _ | omega) (by first | assumption | exact zq_i _ | exact zand_i _ _ | exact zor_i _ _ | exact zN _ | omega) (fun c105 => ?_) (fun c105 => ?_)
                  · refine zT.aload 4 dX1_brown_219 rfl ?_
                    refine zT.iload_n 3 dX1_brown_221 rfl rfl ?_
                    refine zT.lald dX1_brown_222 kw (by first | assumption | exact zq_i _ | exact zand_i _ _ | exact zor_i _ _ | exact zN _ | omega) (by rw [nw]; first | assumption | exact zq_i _ | exact zand_i _ _ | exact zor_i _ _ | exact zN _ | omega) (fun z222 => ?_)
                    rw [hW g gb.1 (Int.le_refl _)]
                    show zT G _ _ _ _ [zJ (bRw g p i.toNat g)] _ _ _ _ _ _
                    refine zT.lret dX1_brown_223 rfl ?_
                    rw [eQ9]
                    have hi9 : i = mm := by omega
                    refine ⟨?_, hgA, hQ.wgr hgA, hoA⟩
                    unfold fBr
                    rw [zite_t ⟨by omega, hT⟩, hi9, hg]
                  · obtain ⟨f, rfl⟩ : ∃ q, f = q + 1 := ⟨f - 1, by omega⟩
                    have hSW := bSp.rw (p := p) gb.1 gb.2 i.toNat
                    obtain ⟨W, hW0⟩ : ∃ z, z = bRw g p i.toNat := ⟨_, rfl⟩
                    rw [← hW0] at hW hSW
                    refine zT.iload_n 3 dX1_brown_108 rfl rfl ?_
                    refine zT.iconst dX1_brown_109 ?_
                    refine zT.iadd dX1_brown_110 ?_
                    refine zT.wfS (fun w111 => ?_)
                    refine zT.wfX (fun u111 => ?_)
                    refine zT.newa (κ := 102) dX1_brown_111 rfl (by decide) q323 (by first | assumption | exact zq_i _ | exact zand_i _ _ | exact zor_i _ _ | exact zN _ | omega) (by first | assumption | exact zq_i _ | exact zand_i _ _ | exact zor_i _ _ | exact zN _ | omega) (k' := f) (n' := (f * 1024)) (by omega) (by omega) ?_
                    obtain ⟨p111, ep111⟩ : ∃ z, z = zx SA := ⟨_, rfl⟩
                    rw [← ep111]
                    obtain ⟨S5, eS5⟩ : ∃ z, z = zal SA 102 (g + 1) := ⟨_, rfl⟩
                    rw [← eS5]
                    have gS5 : zGr SA S5 := by rw [eS5]; exact zGr.al (zfr0 w111)
                    have kS5 : zk S5 p111 = 102 := by rw [eS5, zk_al, ep111, if_pos rfl]
                    have nS5 : zn S5 p111 = g + 1 := by rw [eS5, zn_al, ep111, if_pos rfl]
                    have xS5 : zx S5 = p111 + 1 := by rw [eS5, zx_al, ep111]
                    have zS5 : zk SA p111 = 0 := by rw [ep111]; exact zfr0 w111
                    obtain ⟨m6, em6⟩ : ∃ z, z = znw mA 102 p111 := ⟨_, rfl⟩
                    rw [← em6]
                    have hgB : zGr S S5 := hgA.tr gS5
                    have hwd := hR.wd.1
                    have hux := hgA.1
                    have kw2 : zk S5 wy = 102 := (gS5.2.1 wy (by rw [kw]; decide)).1.trans kw
                    have nw2 : zn S5 wy = g + 1 := (gS5.2.1 wy (by rw [kw]; decide)).2.1.trans nw
                    have hne : wy ≠ p111 := fun q => by rw [q, zS5] at kw; omega
                    have nz : zk S p111 = 0 := hgA.z zS5
                    have hQn : rel S m6 x (zup A 0 1002 0) := by rw [em6]; exact hQ.nwN nz (by omega)
                    have hon : zOut x m m6 := by rw [em6]; exact hoA.nw (by omega)
                    have hWn : ∀ t, 0 ≤ t → t ≤ g → m6 wy t = W t := fun t a b => by rw [em6, znw_ne hne]; exact hW t a b
                    have hXn : ∀ t, 0 ≤ t → t ≤ g → m6 p111 t = bSt g p W (0 : Int).toNat t := fun t a b => by rw [em6, znw_at, zdf_i (by omega)]; rfl
                    refine zT.astore 6 dX1_brown_113 (by decide) (zpre1 rfl (zcI _)) ?_
                    show zT G _ _ _ [zR x, zI mm, zI p, zI g, zR wy, zI i, zR p111, zU, zU, zU] _ _ _ _ _ _ _
                    refine zT.iconst dX1_brown_115 ?_
                    refine zT.istore 7 dX1_brown_116 (by decide) (zpre1 rfl (zcR _)) ?_
                    show zT G _ _ _ [zR x, zI mm, zI p, zI g, zR wy, zI i, zR p111, zI 0, zU, zU] _ _ _ _ _ _ _
                    have L118 : ∀ (N : Nat) (mB : zMm) (t : Int), (rel S mB x (zup A 0 1002 0)) → (zOut x m mB) → (0 ≤ t) → (t ≤ g + 1) → (∀ t, 0 ≤ t → t ≤ g → mB wy t = W t) → (∀ u, 0 ≤ u → u ≤ g → mB p111 u = bSt g p W t.toNat u) → ((g + 1 - t).toNat) < N → zT G mX1_brown 2 118 [zR x, zI mm, zI p, zI g, zR wy, zI i, zR p111, zI t, zU, zU] [] S5 mB f (f * 1024) Q9 zNX := by
                      intro N
                      induction N with
                      | zero => intro mB t hQ hoA t0 t1 hW hX hN; exact absurd hN (Nat.not_lt_zero _)
                      | succ N ih118 =>
                        intro mB t hQ hoA t0 t1 hW hX hN
                        refine zT.iload 7 dX1_brown_118 rfl ?_
                        refine zT.iload_n 3 dX1_brown_120 rfl rfl ?_
                        refine zT.ic_gt (tgt := 209) dX1_brown_121 (by decide) (by first | assumption | exact zq_i _ | exact zand_i _ _ | exact zor_i _ _ | exact zN _ | omega) (by first | assumption | exact zq_i _ | exact zand_i _ _ | exact zor_i _ _ | exact zN _ | omega) (fun c121 => ?_) (fun c121 => ?_)
                        · have htg : t = g + 1 := by omega
                          have hW4 : ∀ u, 0 ≤ u → u ≤ g → mB p111 u = bRw g p (i + 1).toNat u := fun u a b => by
                                                      rw [hX u a b, show (i + 1).toNat = i.toNat + 1 by omega]
                                                      show _ = bSt g p (bRw g p i.toNat) 1024 u
                                                      have z := bSt_x (p := p) gb.1 gb.2 hSW (1024 - (g.toNat + 1)) (by omega)
                                                      rw [show g.toNat + 1 + (1024 - (g.toNat + 1)) = 1024 by omega] at z
                                                      rw [← hW0, z, htg, show (g + 1).toNat = g.toNat + 1 by omega]
                          refine zT.aload 6 dX1_brown_209 rfl ?_
                          refine zT.astore 4 dX1_brown_211 (by decide) (zpre1 rfl (zcI _)) ?_
                          show zT G _ _ _ [zR x, zI mm, zI p, zI g, zR p111, zI i, zR p111, zI t, zU, zU] _ _ _ _ _ _ _
                          refine zT.iinc 5 dX1_brown_213 rfl (by decide) (zpre1 rfl (zcR _)) ?_
                          show zT G _ _ _ [zR x, zI mm, zI p, zI g, zR p111, zI (i + 1), zR p111, zI t, zU, zU] _ _ _ _ _ _ _
                          refine zT.goto (tgt := 102) dX1_brown_216 (by decide) ?_
                          refine zT.loc (V' := [zR x, zI mm, zI p, zI g, zR p111, zI (i + 1), zU, zU, zU, zU]) ?_ ⟨Or.inr rfl, Or.inr rfl, Or.inr rfl, Or.inr rfl, Or.inr rfl, Or.inr rfl, Or.inl rfl, Or.inl rfl, Or.inr rfl, Or.inr rfl, trivial⟩
                          exact ih102 _ _ _ _ f (by exact hgA.tr gS5) (by exact hQ) (by exact hoA) (by exact kS5) (by exact nS5) (by exact hgA.z zS5) (by omega) (by omega) (by omega) (by exact hW4) (by omega)
                        · refine zT.iload 7 dX1_brown_124 rfl ?_
                          refine zT.iload_n 3 dX1_brown_126 rfl rfl ?_
                          refine zT.iconst dX1_brown_127 ?_
                          refine zT.ixor dX1_brown_128 ?_
                          refine zT.iand dX1_brown_129 ?_
                          refine zT.if_ne (tgt := 203) dX1_brown_130 (by decide) (by first | assumption | exact zq_i _ | exact zand_i _ _ | exact zor_i _ _ | exact zN _ | omega) (fun c130 => ?_) (fun c130 => ?_)
                          · refine zT.iinc 7 dX1_brown_203 rfl (by decide) (zpre1 rfl (zcR _)) ?_
                            show zT G _ _ _ [zR x, zI mm, zI p, zI g, zR wy, zI i, zR p111, zI (t + 1), zU, zU] _ _ _ _ _ _ _
                            refine zT.goto (tgt := 118) dX1_brown_206 (by decide) ?_
                            exact ih118 _ _ (by exact hQ) (by exact hoA) (by omega) (by omega) (by exact hW) (by
                                intro u u0 u1
                                rw [hX u u0 u1, show (t + 1).toNat = t.toNat + 1 by omega]
                                conv => rhs; unfold bSt
                                rw [show ((t.toNat : Nat) : Int) = t by omega, if_pos (by first | assumption | exact Classical.byContradiction fun q => absurd ((fSu_t t0 (by omega) gb.1 gb.2).mpr (hSW.1 t t0 (by omega) q)) (by assumption))]) (by omega)
                          · refine zT.aload 4 dX1_brown_133 rfl ?_
                            refine zT.iload 7 dX1_brown_135 rfl ?_
                            refine zT.lald dX1_brown_137 kw2 (by first | assumption | exact zq_i _ | exact zand_i _ _ | exact zor_i _ _ | exact zN _ | omega) (by rw [nw2]; first | assumption | exact zq_i _ | exact zand_i _ _ | exact zor_i _ _ | exact zN _ | omega) (fun z137 => ?_)
                            rw [hW t t0 (by omega)]
                            show zT G _ _ _ _ [zJ (W t)] _ _ _ _ _ _
                            have hwz := hSW.2 t
                            refine zT.lconst dX1_brown_138 ?_
                            show zT G _ _ _ _ (zJ 0 :: _) _ _ _ _ _ _
                            refine zT.lc_ne (tgt := 146) dX1_brown_139 dX1_brown_140 (by decide) (by first | assumption | exact zq_i _ | exact zand_i _ _ | exact zor_i _ _ | exact zN _ | omega) (by first | assumption | exact zq_i _ | exact zand_i _ _ | exact zor_i _ _ | exact zN _ | omega) (fun c139 => ?_) (fun c139 => ?_)
                            · have hst : fSu t g := hSW.1 t t0 (by omega) (by assumption)
                              have hfr := fFr (s := t) (g := g) t0 (by omega) gb.1 gb.2
                              obtain ⟨fr, hfr0⟩ : ∃ z, z = zand g (zxor t (-1)) := ⟨_, rfl⟩
                              rw [← hfr0] at hfr
                              refine zT.iload_n 3 dX1_brown_146 rfl rfl ?_
                              refine zT.iload 7 dX1_brown_147 rfl ?_
                              refine zT.iconst dX1_brown_149 ?_
                              refine zT.ixor dX1_brown_150 ?_
                              refine zT.iand dX1_brown_151 ?_
                              rw [← hfr0]
                              show zT G _ _ _ _ [zI fr] _ _ _ _ _ _
                              obtain ⟨R, hR9⟩ : ∃ z, z = bSt g p W (t + 1).toNat := ⟨_, rfl⟩
                              have hRs := bSp.st (p := p) gb.1 gb.2 hSW t.toNat (by omega)
                              have hR8 : bCh p t (W t) fr 1024 fr (bSt g p W t.toNat) = R := by
                                                              rw [hR9, show (t + 1).toNat = t.toNat + 1 by omega]
                                                              conv => rhs; unfold bSt
                                                              rw [show ((t.toNat : Nat) : Int) = t by omega, if_neg (by assumption), ← hfr0]
                              refine zT.istore 8 dX1_brown_152 (by decide) (zpre1 rfl (zcI _)) ?_
                              show zT G _ _ _ [zR x, zI mm, zI p, zI g, zR wy, zI i, zR p111, zI t, zI fr, zU] _ _ _ _ _ _ _
                              refine zT.iload 8 dX1_brown_154 rfl ?_
                              refine zT.istore 9 dX1_brown_156 (by decide) (zpre1 rfl (zcI _)) ?_
                              show zT G _ _ _ [zR x, zI mm, zI p, zI g, zR wy, zI i, zR p111, zI t, zI fr, zI fr] _ _ _ _ _ _ _
                              have L158 : ∀ (N : Nat) (mD : zMm) (Y : Int → Int) (o : Int) (q : Nat), (rel S mD x (zup A 0 1002 0)) → (zOut x m mD) → (∀ t, 0 ≤ t → t ≤ g → mD wy t = W t) → (∀ u, 0 ≤ u → u ≤ g → mD p111 u = Y u) → (bSp g Y) → (0 ≤ o ∧ o < 1024) → (fSu o g) → (o < q) → (bCh p t (W t) fr q o Y = R) → o.toNat < N → zT G mX1_brown 2 158 [zR x, zI mm, zI p, zI g, zR wy, zI i, zR p111, zI t, zI fr, zI o] [] S5 mD f (f * 1024) Q9 zNX := by
                                intro N
                                induction N with
                                | zero => intro mD Y o q hQ hoA hW hY hYs o0 hog hoq hT hN; exact absurd hN (Nat.not_lt_zero _)
                                | succ N ih158 =>
                                  intro mD Y o q hQ hoA hW hY hYs o0 hog hoq hT hN
                                  obtain ⟨q, rfl⟩ : ∃ z, q = z + 1 := ⟨q - 1, by omega⟩
                                  have hor := fOr t0 (by omega) o0.1 o0.2 gb.1 gb.2 hst hog
                                  have hYu := hYs.up (o := o) (s := t) (w := W t) (p := p) gb.1 gb.2 t0 (by omega) o0.1 o0.2 hst hog
                                  refine zT.iload 9 dX1_brown_158 rfl ?_
                                  refine zT.iload_n 2 dX1_brown_160 rfl rfl ?_
                                  refine zT.callS (M' := mX1_isMinute) [zI o, zI p] [] dX1_brown_161 kX1_453 rfl rfl (C_X1_isMinute (by omega) (by omega) (by omega)) (by decide) (k' := f) (n' := (f * 1024)) (by omega) (by omega) (by decide) (zdk (v := some (zI (zq (fPc o ≤ p ∧ fPr o)))) ?_) (fun _ _ _ _ h => h.elim)
                                  show zT G _ _ _ _ [zI (zq (fPc o ≤ p ∧ fPr o))] _ _ _ _ _ _
                                  refine zT.if_eqB (tgt := 183) dX1_brown_164 (by decide) (fun c164 => ?_) (fun c164 => ?_)
                                  · have hc9 : ¬ (fPc o ≤ p ∧ fPr o) := by assumption
                                    rw [if_neg hc9] at hYu
                                    have hQ7 := hQ
                                    have ho7 := hoA
                                    have hW7 := hW
                                    have hY7 := hY
                                    have hYs7 := hYs
                                    have hT8 := hT
                                    have hT6 := hT8
                                    refine zT.iload 9 dX1_brown_183 rfl ?_
                                    refine zT.if_ne (tgt := 191) dX1_brown_185 (by decide) (by first | assumption | exact zq_i _ | exact zand_i _ _ | exact zor_i _ _ | exact zN _ | omega) (fun c185 => ?_) (fun c185 => ?_)
                                    · have hT7 := hT8
                                      rw [bCh_1 (by assumption), if_neg hc9] at hT7
                                      have hnx := fNx (o := o) (f := fr) (by omega) o0.2 hfr.1 hfr.2.1
                                      refine zT.iload 9 dX1_brown_191 rfl ?_
                                      refine zT.iconst dX1_brown_193 ?_
                                      refine zT.isub dX1_brown_194 ?_
                                      refine zT.iload 8 dX1_brown_195 rfl ?_
                                      refine zT.iand dX1_brown_197 ?_
                                      refine zT.istore 9 dX1_brown_198 (by decide) (zpre1 rfl (zcI _)) ?_
                                      show zT G _ _ _ [zR x, zI mm, zI p, zI g, zR wy, zI i, zR p111, zI t, zI fr, zI (zand (o - 1) fr)] _ _ _ _ _ _ _
                                      refine zT.goto (tgt := 158) dX1_brown_200 (by decide) ?_
                                      exact ih158 _ _ _ q (by exact hQ7) (by exact ho7) (by exact hW7) (by exact hY7) (by exact hYs7) (by omega) (by exact fSu_tr hnx.1 (by omega) hfr.1 hfr.2.1 gb.1 gb.2 hnx.2.2 hfr.2.2) (by omega) (by exact hT7) (by omega)
                                    · rw [bCh_0 (by assumption), if_neg hc9] at hT6
                                      have hX9 : ∀ u, 0 ≤ u → u ≤ g → mD p111 u = bSt g p W (t + 1).toNat u := fun u a b => by rw [hY7 u a b, hT6, hR9]
                                      have hQ := hQ7
                                      have hoA := ho7
                                      have hW := hW7
                                      refine zT.goto (tgt := 203) dX1_brown_188 (by decide) ?_
                                      refine zT.iinc 7 dX1_brown_203 rfl (by decide) (zpre1 rfl (zcR _)) ?_
                                      show zT G _ _ _ [zR x, zI mm, zI p, zI g, zR wy, zI i, zR p111, zI (t + 1), zI fr, zI o] _ _ _ _ _ _ _
                                      refine zT.goto (tgt := 118) dX1_brown_206 (by decide) ?_
                                      refine zT.loc (V' := [zR x, zI mm, zI p, zI g, zR wy, zI i, zR p111, zI (t + 1), zU, zU]) ?_ ⟨Or.inr rfl, Or.inr rfl, Or.inr rfl, Or.inr rfl, Or.inr rfl, Or.inr rfl, Or.inr rfl, Or.inr rfl, Or.inl rfl, Or.inl rfl, trivial⟩
                                      exact ih118 _ _ (by exact hQ) (by exact hoA) (by omega) (by omega) (by exact hW) (by exact hX9) (by omega)
                                  · refine zT.aload 6 dX1_brown_167 rfl ?_
                                    refine zT.iload 7 dX1_brown_169 rfl ?_
                                    refine zT.iload 9 dX1_brown_171 rfl ?_
                                    refine zT.ior dX1_brown_173 ?_
                                    refine zT.dup2 dX1_brown_174 (zcI _) (zcR _) ?_
                                    refine zT.lald dX1_brown_175 kS5 (by first | assumption | exact zq_i _ | exact zand_i _ _ | exact zor_i _ _ | exact zN _ | omega) (by rw [nS5]; first | assumption | exact zq_i _ | exact zand_i _ _ | exact zor_i _ _ | exact zN _ | omega) (fun z175 => ?_)
                                    rw [hY (zor t o) hor.1 hor.2.1]
                                    show zT G _ _ _ _ [zJ (Y (zor t o)), zI (zor t o), zR p111] _ _ _ _ _ _
                                    refine zT.aload 4 dX1_brown_176 rfl ?_
                                    refine zT.iload 7 dX1_brown_178 rfl ?_
                                    refine zT.lald dX1_brown_180 kw2 (by first | assumption | exact zq_i _ | exact zand_i _ _ | exact zor_i _ _ | exact zN _ | omega) (by rw [nw2]; first | assumption | exact zq_i _ | exact zand_i _ _ | exact zor_i _ _ | exact zN _ | omega) (fun z180 => ?_)
                                    rw [hW t t0 (by omega)]
                                    show zT G _ _ _ _ [zJ (W t), zJ (Y (zor t o)), zI (zor t o), zR p111] _ _ _ _ _ _
                                    refine zT.ladd dX1_brown_181 ?_
                                    refine zT.normJ (jbm_64 _) ?_
                                    show zT G _ _ _ _ [zJ (jbm (Y (zor t o) + W t)), zI (zor t o), zR p111] _ _ _ _ _ _
                                    have hjj := jbm_j (Y (zor t o) + W t)
                                    refine zT.last dX1_brown_182 kS5 (by first | assumption | exact zq_i _ | exact zand_i _ _ | exact zor_i _ _ | exact zN _ | omega) (by rw [nS5]; first | assumption | exact zq_i _ | exact zand_i _ _ | exact zor_i _ _ | exact zN _ | omega) (by first | assumption | exact zq_i _ | exact zand_i _ _ | exact zor_i _ _ | exact zN _ | omega) ?_
                                    obtain ⟨m7, em7⟩ : ∃ z, z = zup mD p111 (zor t o) (jbm (Y (zor t o) + W t)) := ⟨_, rfl⟩
                                    rw [← em7]
                                    have hc9 : fPc o ≤ p ∧ fPr o := by assumption
                                    rw [if_pos hc9] at hYu
                                    have hQ7 : rel S m7 x (zup A 0 1002 0) := by rw [em7]; exact hQ.upN nz (by omega)
                                    have ho7 : zOut x m m7 := by rw [em7]; exact hoA.up (by omega)
                                    have hW7 : ∀ t, 0 ≤ t → t ≤ g → m7 wy t = W t := fun t a b => by rw [em7, zup_ne (fun z => hne z.1)]; exact hW t a b
                                    have hY7 : ∀ u, 0 ≤ u → u ≤ g → m7 p111 u = fSet Y (zor t o) (jbm (Y (zor t o) + W t)) u := fun u a b => by
                                                                          rw [em7]
                                                                          by_cases z : u = zor t o
                                                                          · rw [z, zup_at, fSet_at]
                                                                          · rw [zup_ne (fun y => z y.2), fSet_ne z]; exact hY u a b
                                    have hYs7 := hYu
                                    have hT8 := hT
                                    have hT6 := hT8
                                    refine zT.iload 9 dX1_brown_183 rfl ?_
                                    refine zT.if_ne (tgt := 191) dX1_brown_185 (by decide) (by first | assumption | exact zq_i _ | exact zand_i _ _ | exact zor_i _ _ | exact zN _ | omega) (fun c185 => ?_) (fun c185 => ?_)
                                    · have hT7 := hT8
                                      rw [bCh_1 (by assumption), if_pos hc9] at hT7
                                      have hnx := fNx (o := o) (f := fr) (by omega) o0.2 hfr.1 hfr.2.1
                                      refine zT.iload 9 dX1_brown_191 rfl ?_
                                      refine zT.iconst dX1_brown_193 ?_
                                      refine zT.isub dX1_brown_194 ?_
                                      refine zT.iload 8 dX1_brown_195 rfl ?_
                                      refine zT.iand dX1_brown_197 ?_
                                      refine zT.istore 9 dX1_brown_198 (by decide) (zpre1 rfl (zcI _)) ?_
                                      show zT G _ _ _ [zR x, zI mm, zI p, zI g, zR wy, zI i, zR p111, zI t, zI fr, zI (zand (o - 1) fr)] _ _ _ _ _ _ _
                                      refine zT.goto (tgt := 158) dX1_brown_200 (by decide) ?_
                                      exact ih158 _ _ _ q (by exact hQ7) (by exact ho7) (by exact hW7) (by exact hY7) (by exact hYs7) (by omega) (by exact fSu_tr hnx.1 (by omega) hfr.1 hfr.2.1 gb.1 gb.2 hnx.2.2 hfr.2.2) (by omega) (by exact hT7) (by omega)
                                    · rw [bCh_0 (by assumption), if_pos hc9] at hT6
                                      have hX9 : ∀ u, 0 ≤ u → u ≤ g → m7 p111 u = bSt g p W (t + 1).toNat u := fun u a b => by rw [hY7 u a b, hT6, hR9]
                                      have hQ := hQ7
                                      have hoA := ho7
                                      have hW := hW7
                                      refine zT.goto (tgt := 203) dX1_brown_188 (by decide) ?_
                                      refine zT.iinc 7 dX1_brown_203 rfl (by decide) (zpre1 rfl (zcR _)) ?_
                                      show zT G _ _ _ [zR x, zI mm, zI p, zI g, zR wy, zI i, zR p111, zI (t + 1), zI fr, zI o] _ _ _ _ _ _ _
                                      refine zT.goto (tgt := 118) dX1_brown_206 (by decide) ?_
                                      refine zT.loc (V' := [zR x, zI mm, zI p, zI g, zR wy, zI i, zR p111, zI (t + 1), zU, zU]) ?_ ⟨Or.inr rfl, Or.inr rfl, Or.inr rfl, Or.inr rfl, Or.inr rfl, Or.inr rfl, Or.inr rfl, Or.inr rfl, Or.inl rfl, Or.inl rfl, trivial⟩
                                      exact ih118 _ _ (by exact hQ) (by exact hoA) (by omega) (by omega) (by exact hW) (by exact hX9) (by omega)
                              exact L158 _ _ _ _ 1024 (by exact hQ) (by exact hoA) (by exact hW) (by exact hX) (by exact hRs) (by exact ⟨hfr.1, hfr.2.1⟩) (by exact hfr.2.2) (by omega) (by exact hR8) (Nat.lt_succ_self _)
                            · refine zT.goto (tgt := 203) dX1_brown_143 (by decide) ?_
                              refine zT.iinc 7 dX1_brown_203 rfl (by decide) (zpre1 rfl (zcR _)) ?_
                              show zT G _ _ _ [zR x, zI mm, zI p, zI g, zR wy, zI i, zR p111, zI (t + 1), zU, zU] _ _ _ _ _ _ _
                              refine zT.goto (tgt := 118) dX1_brown_206 (by decide) ?_
                              exact ih118 _ _ (by exact hQ) (by exact hoA) (by omega) (by omega) (by exact hW) (by
                                  intro u u0 u1
                                  rw [hX u u0 u1, show (t + 1).toNat = t.toNat + 1 by omega]
                                  conv => rhs; unfold bSt
                                  rw [show ((t.toNat : Nat) : Int) = t by omega, if_pos (by first | assumption | exact Classical.byContradiction fun q => absurd ((fSu_t t0 (by omega) gb.1 gb.2).mpr (hSW.1 t t0 (by omega) q)) (by assumption))]) (by omega)
                    exact L118 _ _ _ (by exact hQn) (by exact hon) (by first | assumption | exact zq_i _ | exact zand_i _ _ | exact zor_i _ _ | exact zN _ | omega) (by first | assumption | exact zq_i _ | exact zand_i _ _ | exact zor_i _ _ | exact zN _ | omega) (by exact hWn) (by exact hXn) (Nat.lt_succ_self _)
              exact zT.room (L102 _ _ _ _ _ mm.toNat (by exact gS2) (by exact hQ3) (by exact ho3) (by exact kS2) (by exact nS2) (by exact zS2) (by omega) (by omega) (by omega) (by exact hW3) (Nat.lt_succ_self _)) (by omega) (by omega)
            · refine zT.aload_n 0 dX1_brown_53 rfl rfl ?_
              refine zT.iload 4 dX1_brown_54 rfl ?_
              have hvs := hv9 s s0 (by omega)
              refine zT.callV (M' := mX1_one_2) (b := x) [zI s] [] dX1_brown_56 kX1_450 rfl rfl (ci := 0) (r := (RX1, TX1, 42)) rfl (zPan.k hQ0.sh) (C_X1_one_2 hQ0 (by omega) (by omega)) (by decide) (k' := 12) (n' := 12288) (by omega) (by omega) (by decide) (zdk (v := some (zI (A 1 s))) ?_) (fun _ _ _ _ h => h.elim)
              show zT G _ _ _ _ [zI (A 1 s)] _ _ _ _ _ _
              refine zT.iconst dX1_brown_59 ?_
              refine zT.ic_le (tgt := 67) dX1_brown_60 (by decide) (by first | assumption | exact zq_i _ | exact zand_i _ _ | exact zor_i _ _ | exact zN _ | omega) (by first | assumption | exact zq_i _ | exact zand_i _ _ | exact zor_i _ _ | exact zN _ | omega) (fun c60 => ?_) (fun c60 => ?_)
              · refine zT.iload_n 3 dX1_brown_67 rfl rfl ?_
                refine zT.aload_n 0 dX1_brown_68 rfl rfl ?_
                refine zT.iload 4 dX1_brown_69 rfl ?_
                refine zT.callV (M' := mX1_one_2) (b := x) [zI s] [zI g] dX1_brown_71 kX1_450 rfl rfl (ci := 0) (r := (RX1, TX1, 42)) rfl (zPan.k hQ0.sh) (C_X1_one_2 hQ0 (by omega) (by omega)) (by decide) (k' := 12) (n' := 12288) (by omega) (by omega) (by simp only [List.map, zcI, zcJ, zcR, List.sum_cons, List.sum_nil]; decide) (zdk (v := some (zI (A 1 s))) ?_) (fun _ _ _ _ h => h.elim)
                show zT G _ _ _ _ [zI (A 1 s), zI g] _ _ _ _ _ _
                refine zT.iconst dX1_brown_74 ?_
                refine zT.iload 4 dX1_brown_75 rfl ?_
                refine zT.imul dX1_brown_77 ?_
                refine zT.ishl dX1_brown_78 (by first | assumption | exact zq_i _ | exact zand_i _ _ | exact zor_i _ _ | exact zN _ | omega) (by first | assumption | exact zq_i _ | exact zand_i _ _ | exact zor_i _ _ | exact zN _ | omega) ?_
                refine zT.ior dX1_brown_79 ?_
                refine zT.istore_n 3 dX1_brown_80 rfl (by decide) (zpre1 rfl (zcI _)) ?_
                show zT G _ _ _ [zR x, zI mm, zI p, zI (zor g ((A 1 s) * 2 ^ (2 * s).toNat)), zI s, zU, zU, zU, zU, zU] _ _ _ _ _ _ _
                refine zT.iinc 4 dX1_brown_81 rfl (by decide) (zpre1 rfl (zcI _)) ?_
                show zT G _ _ _ [zR x, zI mm, zI p, zI (zor g ((A 1 s) * 2 ^ (2 * s).toNat)), zI (s + 1), zU, zU, zU, zU, zU] _ _ _ _ _ _ _
                refine zT.goto (tgt := 44) dX1_brown_84 (by decide) ?_
                exact ih44 _ _ (by first | assumption | exact zq_i _ | exact zand_i _ _ | exact zor_i _ _ | exact zN _ | omega) (by first | assumption | exact zq_i _ | exact zand_i _ _ | exact zor_i _ _ | exact zN _ | omega) (by rw [hg, ← fTd_s s0]) (by exact zal_s hT (by omega)) (by omega)
              · refine zT.ldc2 (-1) q1146 (by decide +kernel) dX1_brown_63 ?_
                refine zT.lret dX1_brown_66 rfl ?_
                rw [eQ9]
                exact ⟨by unfold fBr; rw [zite_f (fun z => by have := z.2 s s0 (by omega); omega)], zGr.rf, hQ0, ho0⟩
        exact L44 _ _ _ (by first | assumption | exact zq_i _ | exact zand_i _ _ | exact zor_i _ _ | exact zN _ | omega) (by first | assumption | exact zq_i _ | exact zand_i _ _ | exact zor_i _ _ | exact zN _ | omega) (by rfl) (by exact zal_0) (Nat.lt_succ_self _)
      · refine zT.ldc2 (-1) q1146 (by decide +kernel) dX1_brown_35 ?_
        refine zT.lret dX1_brown_38 rfl ?_
        rw [eQ9]
        exact ⟨by unfold fBr; rw [zite_f (fun z => by have := z.1; omega)], zGr.rf, hQ0, ho0⟩

