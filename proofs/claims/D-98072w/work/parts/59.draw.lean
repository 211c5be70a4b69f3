/-! draw, drawn (written by gen/m_morn.py) -/
theorem zbm32 (x : Int) : Int32.ofInt x = Int32.ofInt (x.bmod 4294967296) := by
  apply Int32.toInt_inj.mp
  rw [Int32.toInt_ofInt, Int32.toInt_ofInt]
  show x.bmod 4294967296 = (x.bmod 4294967296).bmod 4294967296
  rw [Int.bmod_bmod]
theorem C_X1_draw {G : zG} {S : zS} {m : zMm} {x n : Int} (hx : zPan S x) (hn : 0 < n) (hn2 : n ≤ 100) : zC G mX1_draw 0 0 0 [zR x, zI n] S m (zDet (some (zI (fDr (m x 36) n))) S (zup m x 36 (fSd (m x 36)))) zNX := by
  have hs1 := fSd_i (m x 36)
  have hs2 : 0 ≤ fSd (m x 36) % 4294967296 ∧ fSd (m x 36) % 4294967296 < 4294967296 := ⟨Int.emod_nonneg _ (by omega), Int.emod_lt_of_pos _ (by omega)⟩
  have hs3 : (2 : Int) ^ Int.toNat 8 = 256 := rfl
  refine zC.of [zR x, zI n] (by decide) rfl (zEn1 (zcR _) (zEn1 (zcI _) (zEn0 (by simp)))) rfl ?_
  obtain ⟨Q9, eQ9⟩ : ∃ z : zQt, z = (zDet (some (zI (fDr (m x 36) n))) S (zup m x 36 (fSd (m x 36)))) := ⟨_, rfl⟩
  rw [← eQ9]
  refine zT.aload_n 0 dX1_draw_0 rfl rfl ?_
  refine zT.aload_n 0 dX1_draw_1 rfl rfl ?_
  refine zT.getI dX1_draw_2 fX1_456 rfl (zPan.k hx) (j := 36) (by decide) rfl (fun z2 => ?_)
  refine zT.ldcw 1103515245 q1170 (by decide +kernel) dX1_draw_5 ?_
  refine zT.imul dX1_draw_8 ?_
  refine zT.sipush dX1_draw_9 ?_
  refine zT.iadd dX1_draw_12 ?_
  refine zT.norm (zbm32 _) ?_
  show zT G _ _ _ _ [zI (fSd (m x 36)), zR x] _ _ _ _ _ _
  refine zT.putI dX1_draw_13 fX1_456 zs_36 rfl (zPan.k hx) (j := 36) (by decide) rfl (by first | assumption | exact zq_i _ | exact zand_i _ _ | exact zor_i _ _ | exact zxor_i _ _ | exact zN _ | omega) ?_
  obtain ⟨m1, em1⟩ : ∃ z, z = zup m x 36 (fSd (m x 36)) := ⟨_, rfl⟩
  rw [← em1]
  refine zT.aload_n 0 dX1_draw_16 rfl rfl ?_
  refine zT.getI dX1_draw_17 fX1_456 rfl (zPan.k hx) (j := 36) (by decide) rfl (fun z17 => ?_)
  have r17 : m1 x 36 = fSd (m x 36) := by rw [em1, zup_at]
  rw [r17] at z17 ⊢
  refine zT.bipush dX1_draw_20 ?_
  refine zT.iushr dX1_draw_22 (by first | assumption | exact zq_i _ | exact zand_i _ _ | exact zor_i _ _ | exact zxor_i _ _ | exact zN _ | omega) (by first | assumption | exact zq_i _ | exact zand_i _ _ | exact zor_i _ _ | exact zxor_i _ _ | exact zN _ | omega) ?_
  refine zT.iload_n 1 dX1_draw_23 rfl rfl ?_
  refine zT.irem dX1_draw_24 (by first | omega | (rw [hs3]; omega)) (by first | omega | (rw [hs3]; omega)) (by first | omega | (rw [hs3]; omega)) (by first | omega | (rw [hs3]; omega)) ?_
  refine zT.iret dX1_draw_25 rfl ?_
  rw [eQ9]
  refine ⟨?_, rfl, by rw [em1]⟩
  unfold fDr
  rw [hs3]

theorem C_X13_draw {G : zG} {S : zS} {m : zMm} {b n : Int} (hb : zMod S b) (hn : 0 < n) (hn2 : n ≤ 100) : zC G mX13_draw 0 0 0 [zR b, zI n] S m (zDet (some (zI (fDr (m b 1056) n))) S (zup m b 1056 (fSd (m b 1056)))) zNX := by
  have hs1 := fSd_i (m b 1056)
  have hs2 : 0 ≤ fSd (m b 1056) % 4294967296 ∧ fSd (m b 1056) % 4294967296 < 4294967296 := ⟨Int.emod_nonneg _ (by omega), Int.emod_lt_of_pos _ (by omega)⟩
  have hs3 : (2 : Int) ^ Int.toNat 8 = 256 := rfl
  refine zC.of [zR b, zI n] (by decide) rfl (zEn1 (zcR _) (zEn1 (zcI _) (zEn0 (by simp)))) rfl ?_
  obtain ⟨Q9, eQ9⟩ : ∃ z : zQt, z = (zDet (some (zI (fDr (m b 1056) n))) S (zup m b 1056 (fSd (m b 1056)))) := ⟨_, rfl⟩
  rw [← eQ9]
  refine zT.aload_n 0 dX13_draw_0 rfl rfl ?_
  refine zT.aload_n 0 dX13_draw_1 rfl rfl ?_
  refine zT.getI dX13_draw_2 fX13_439 rfl (zMod.k hb) (j := 56) (by decide) rfl (fun z2 => ?_)
  refine zT.ldcw 1103515245 q2062 (by decide +kernel) dX13_draw_5 ?_
  refine zT.imul dX13_draw_8 ?_
  refine zT.sipush dX13_draw_9 ?_
  refine zT.iadd dX13_draw_12 ?_
  refine zT.norm (zbm32 _) ?_
  show zT G _ _ _ _ [zI (fSd (m b 1056)), zR b] _ _ _ _ _ _
  refine zT.putI dX13_draw_13 fX13_439 zs_1056 rfl (zMod.k hb) (j := 56) (by decide) rfl (by first | assumption | exact zq_i _ | exact zand_i _ _ | exact zor_i _ _ | exact zxor_i _ _ | exact zN _ | omega) ?_
  obtain ⟨m1, em1⟩ : ∃ z, z = zup m b 1056 (fSd (m b 1056)) := ⟨_, rfl⟩
  rw [← em1]
  refine zT.aload_n 0 dX13_draw_16 rfl rfl ?_
  refine zT.getI dX13_draw_17 fX13_439 rfl (zMod.k hb) (j := 56) (by decide) rfl (fun z17 => ?_)
  have r17 : m1 b 1056 = fSd (m b 1056) := by rw [em1, zup_at]
  rw [r17] at z17 ⊢
  refine zT.bipush dX13_draw_20 ?_
  refine zT.iushr dX13_draw_22 (by first | assumption | exact zq_i _ | exact zand_i _ _ | exact zor_i _ _ | exact zxor_i _ _ | exact zN _ | omega) (by first | assumption | exact zq_i _ | exact zand_i _ _ | exact zor_i _ _ | exact zxor_i _ _ | exact zN _ | omega) ?_
  refine zT.iload_n 1 dX13_draw_23 rfl rfl ?_
  refine zT.irem dX13_draw_24 (by first | omega | (rw [hs3]; omega)) (by first | omega | (rw [hs3]; omega)) (by first | omega | (rw [hs3]; omega)) (by first | omega | (rw [hs3]; omega)) ?_
  refine zT.iret dX13_draw_25 rfl ?_
  rw [eQ9]
  refine ⟨?_, rfl, by rw [em1]⟩
  unfold fDr
  rw [hs3]

theorem C_X1_drawn {G : zG}  {S : zS} {m : zMm} {x : Int} {A : zMm} (hR : rel S m x A) {on : Int} (ho : zi on) (hL : ∀ j, 0 ≤ j → j < 2 * (aK (A 0 1023) (A 2)) 5 → 0 ≤ m (x + 39) j ∧ m (x + 39) j ≤ 20) : zC G mX1_drawn 2 0 0 [zR x, zI on] S m (zDet (some (zI (if acnt (fCd (m (x + 39)) on) ((aK (A 0 1023) (A 2)) 5) = 0 then -1 else fKt (m (x + 39)) on (fDr (m x 36) (acnt (fCd (m (x + 39)) on) ((aK (A 0 1023) (A 2)) 5))) ((aK (A 0 1023) (A 2)) 5)))) S (if acnt (fCd (m (x + 39)) on) ((aK (A 0 1023) (A 2)) 5) = 0 then m else (zup m x 36 (fSd (m x 36))))) zNX := by
  have hk := hR.vki.1
  have hKi := (hR.ki.2.1).ki hk
  have hKn := hKi.nu
  have hkr := hR.ki.2.1
  have hkf := hkr.2.1
  have hk0 := hk.1
  refine zC.of [zR x, zI on, zU, zU, zU] (by decide) rfl (zEn1 (zcR _) (zEn1 (zcI _) (zEn0 (by simp)))) rfl ?_
  obtain ⟨Q9, eQ9⟩ : ∃ z : zQt, z = (zDet (some (zI (if acnt (fCd (m (x + 39)) on) ((aK (A 0 1023) (A 2)) 5) = 0 then -1 else fKt (m (x + 39)) on (fDr (m x 36) (acnt (fCd (m (x + 39)) on) ((aK (A 0 1023) (A 2)) 5))) ((aK (A 0 1023) (A 2)) 5)))) S (if acnt (fCd (m (x + 39)) on) ((aK (A 0 1023) (A 2)) 5) = 0 then m else (zup m x 36 (fSd (m x 36))))) := ⟨_, rfl⟩
  rw [← eQ9]
  refine zT.iconst dX1_drawn_0 ?_
  refine zT.istore_n 2 dX1_drawn_1 rfl (by decide) (zpre1 rfl (zcI _)) ?_
  show zT G _ _ _ [zR x, zI on, zI 0, zU, zU] _ _ _ _ _ _ _
  refine zT.iconst dX1_drawn_2 ?_
  refine zT.istore_n 3 dX1_drawn_3 rfl (by decide) (zpre1 rfl (zcI _)) ?_
  show zT G _ _ _ [zR x, zI on, zI 0, zI 0, zU] _ _ _ _ _ _ _
  have L4 : ∀ (N : Nat) (s : Int) (v : Int), (0 ≤ s) → (s ≤ (aK (A 0 1023) (A 2)) 5) → (v = acnt (fCd (m (x + 39)) on) s) → (((aK (A 0 1023) (A 2)) 5 - s).toNat) < N → zT G mX1_drawn 2 4 [zR x, zI on, zI v, zI s, zU] [] S m 0 0 Q9 zNX := by
    intro N
    induction N with
    | zero => intro s v s0 s1 hv hN; exact absurd hN (Nat.not_lt_zero _)
    | succ N ih4 =>
      intro s v s0 s1 hv hN
      have hvb := acnt_b (P := fCd (m (x + 39)) on) s0
      rw [← hv] at hvb
      refine zT.iload_n 3 dX1_drawn_4 rfl rfl ?_
      refine zT.aload_n 0 dX1_drawn_5 rfl rfl ?_
      refine zT.getR dX1_drawn_6 fX1_66 rfl (zPan.k hR.sh) (j := 7) (by decide) rfl ?_
      refine zT.getI dX1_drawn_9 fX1_228 rfl (zKit.k hR.ki.2.1.1) (j := 8) (by decide) rfl (fun z9 => ?_)
      refine zT.ic_ge (tgt := 59) dX1_drawn_12 (by decide) (by first | assumption | exact zq_i _ | exact zand_i _ _ | exact zor_i _ _ | exact zxor_i _ _ | exact zN _ | omega) (by first | assumption | exact zq_i _ | exact zand_i _ _ | exact zor_i _ _ | exact zxor_i _ _ | exact zN _ | omega) (fun c12 => ?_) (fun c12 => ?_)
      · refine zT.iload_n 2 dX1_drawn_59 rfl rfl ?_
        have hvk : v = acnt (fCd (m (x + 39)) on) ((aK (A 0 1023) (A 2)) 5) := by rw [hv, show s = (aK (A 0 1023) (A 2)) 5 by omega]
        have hcb := acnt_b (P := fCd (m (x + 39)) on) (k := (aK (A 0 1023) (A 2)) 5) (by omega)
        rw [hvk]
        show zT G _ _ _ [zR x, zI on, zI (acnt (fCd (m (x + 39)) on) ((aK (A 0 1023) (A 2)) 5)), zI s, zU] [zI (acnt (fCd (m (x + 39)) on) ((aK (A 0 1023) (A 2)) 5))] _ _ _ _ _ _
        refine zT.if_ne (tgt := 65) dX1_drawn_60 (by decide) (by first | assumption | exact zq_i _ | exact zand_i _ _ | exact zor_i _ _ | exact zxor_i _ _ | exact zN _ | omega) (fun c60 => ?_) (fun c60 => ?_)
        · have hfd := fDr_b (s := m x 36) (n := acnt (fCd (m (x + 39)) on) ((aK (A 0 1023) (A 2)) 5)) (by omega)
          refine zT.aload_n 0 dX1_drawn_65 rfl rfl ?_
          refine zT.iload_n 2 dX1_drawn_66 rfl rfl ?_
          refine zT.callV (M' := mX1_draw) (b := x) [zI (acnt (fCd (m (x + 39)) on) ((aK (A 0 1023) (A 2)) 5))] [] dX1_drawn_67 kX1_460 rfl rfl (ci := 0) (r := (RX1, TX1, 42)) rfl (zPan.k hR.sh) (C_X1_draw hR.sh (by omega) (by omega)) (by decide) (k' := 0) (n' := 0) (by omega) (by omega) (by decide) (zdk (v := some (zI (fDr (m x 36) (acnt (fCd (m (x + 39)) on) ((aK (A 0 1023) (A 2)) 5))))) ?_) (fun _ _ _ _ h => h.elim)
          show zT G _ _ _ _ [zI (fDr (m x 36) (acnt (fCd (m (x + 39)) on) ((aK (A 0 1023) (A 2)) 5)))] _ _ _ _ _ _
          obtain ⟨m1, em1⟩ : ∃ z, z = zup m x 36 (fSd (m x 36)) := ⟨_, rfl⟩
          rw [← em1]
          obtain ⟨D9, eD9⟩ : ∃ z, z = fDr (m x 36) (acnt (fCd (m (x + 39)) on) ((aK (A 0 1023) (A 2)) 5)) := ⟨_, rfl⟩
          rw [← eD9] at hfd ⊢
          refine zT.istore_n 3 dX1_drawn_70 rfl (by decide) (zpre1 rfl (zcI _)) ?_
          show zT G _ _ _ [zR x, zI on, zI (acnt (fCd (m (x + 39)) on) ((aK (A 0 1023) (A 2)) 5)), zI D9, zU] _ _ _ _ _ _ _
          refine zT.iconst dX1_drawn_71 ?_
          refine zT.istore 4 dX1_drawn_72 (by decide) (zpre1 rfl (zcI _)) ?_
          show zT G _ _ _ [zR x, zI on, zI (acnt (fCd (m (x + 39)) on) ((aK (A 0 1023) (A 2)) 5)), zI D9, zI (-1)] _ _ _ _ _ _ _
          have L74 : ∀ (N : Nat) (k : Int) (s : Int), (-1 ≤ s) → (s < (aK (A 0 1023) (A 2)) 5) → (-1 ≤ k) → (k ≤ 100) → (0 ≤ k → acnt (fCd (m (x + 39)) on) (s + 1) = D9 - k) → (k < 0 → 0 ≤ s ∧ fCd (m (x + 39)) on s ∧ acnt (fCd (m (x + 39)) on) s = D9) → (((aK (A 0 1023) (A 2)) 5 - s).toNat) < N → zT G mX1_drawn 2 74 [zR x, zI on, zU, zI k, zI s] [] S (zup m x 36 (fSd (m x 36))) 0 0 Q9 zNX := by
            intro N
            induction N with
            | zero => intro k s s0 s1 hk1 hk2 hkA hkB hN; exact absurd hN (Nat.not_lt_zero _)
            | succ N ih74 =>
              intro k s s0 s1 hk1 hk2 hkA hkB hN
              obtain ⟨m2, em2⟩ : ∃ z, z = zup m x 36 (fSd (m x 36)) := ⟨_, rfl⟩
              rw [← em2]
              refine zT.iload_n 3 dX1_drawn_74 rfl rfl ?_
              refine zT.if_lt (tgt := 125) dX1_drawn_75 (by decide) (by first | assumption | exact zq_i _ | exact zand_i _ _ | exact zor_i _ _ | exact zxor_i _ _ | exact zN _ | omega) (fun c75 => ?_) (fun c75 => ?_)
              · refine zT.iload 4 dX1_drawn_125 rfl ?_
                refine zT.iret dX1_drawn_127 rfl ?_
                rw [eQ9]
                have hz := hkB (by omega)
                refine ⟨?_, rfl, ?_⟩
                · rw [if_neg (by omega), ← eD9, fKt_e hz.1 s1 hz.2.1 hz.2.2]
                · rw [if_neg (by omega), em2]
              · have hsk : s + 1 < (aK (A 0 1023) (A 2)) 5 := by
                  refine Classical.byContradiction fun q => ?_
                  have e9 : s + 1 = (aK (A 0 1023) (A 2)) 5 := by omega
                  have q9 := hkA (by omega)
                  rw [e9] at q9
                  omega
                refine zT.iinc 4 dX1_drawn_78 rfl (by decide) (zpre1 rfl (zcI _)) ?_
                show zT G _ _ _ [zR x, zI on, zU, zI k, zI (s + 1)] _ _ _ _ _ _ _
                refine zT.iload_n 3 dX1_drawn_81 rfl rfl ?_
                refine zT.iload_n 1 dX1_drawn_82 rfl rfl ?_
                refine zT.iload 4 dX1_drawn_83 rfl ?_
                have ha0 := hL (2 * (s + 1)) (by omega) (by omega)
                have ha1 := hL (2 * (s + 1) + 1) (by omega) (by omega)
                refine zT.callS (M' := mX1_has) [zI on, zI (s + 1)] [zI k] dX1_drawn_85 kX1_424 rfl rfl (C_X1_has (by first | assumption | exact zq_i _ | exact zand_i _ _ | exact zor_i _ _ | exact zxor_i _ _ | exact zN _ | omega) (by first | assumption | exact zq_i _ | exact zand_i _ _ | exact zor_i _ _ | exact zxor_i _ _ | exact zN _ | omega) (by first | assumption | exact zq_i _ | exact zand_i _ _ | exact zor_i _ _ | exact zxor_i _ _ | exact zN _ | omega)) (by decide) (k' := 0) (n' := 0) (by omega) (by omega) (by simp only [List.map, zcI, zcJ, zcR, List.sum_cons, List.sum_nil]; decide) (zdk (v := some (zI (zq (zbit on (s + 1))))) ?_) (fun _ _ _ _ h => h.elim)
                show zT G _ _ _ _ [zI (zq (zbit on (s + 1))), zI k] _ _ _ _ _ _
                refine zT.if_neB (tgt := 119) dX1_drawn_88 (by decide) (fun c88 => ?_) (fun c88 => ?_)
                · refine zT.iconst dX1_drawn_119 ?_
                  refine zT.isub dX1_drawn_120 ?_
                  refine zT.istore_n 3 dX1_drawn_121 rfl (by decide) (zpreU rfl) ?_
                  show zT G _ _ _ [zR x, zI on, zU, zI (k - 0), zI (s + 1)] _ _ _ _ _ _ _
                  refine zT.goto (tgt := 74) dX1_drawn_122 (by decide) ?_
                  have eb74 : m2 = zup m x 36 (fSd (m x 36)) := by
                    rw [em2]
                  refine zT.meq eb74 ?_
                  exact ih74 _ _ (by first | assumption | exact zq_i _ | exact zand_i _ _ | exact zor_i _ _ | exact zxor_i _ _ | exact zN _ | omega) (by first | assumption | exact zq_i _ | exact zand_i _ _ | exact zor_i _ _ | exact zxor_i _ _ | exact zN _ | omega) (by first | assumption | exact zq_i _ | exact zand_i _ _ | exact zor_i _ _ | exact zxor_i _ _ | exact zN _ | omega) (by first | assumption | exact zq_i _ | exact zand_i _ _ | exact zor_i _ _ | exact zxor_i _ _ | exact zN _ | omega) (by
                      exact fun q => by
                        have q9 := hkA (by omega)
                        rcases acnt_s (P := fCd (m (x + 39)) on) (k := s + 1) (by omega) with ⟨p, e⟩ | ⟨p, e⟩
                        · have p2 := p.2
                          first
                            | omega
                            | exact absurd ‹zbit on (s + 1)› p.1
                        · first
                            | omega
                            | exact absurd ⟨by assumption, by omega⟩ p) (by
                      exact fun q => by
                        have q9 := hkA (by omega)
                        first
                          | (exfalso; omega)
                          | exact ⟨by omega, ⟨by assumption, by omega⟩, by omega⟩) (by omega)
                · refine zT.aload_n 0 dX1_drawn_91 rfl rfl ?_
                  refine zT.getF dX1_drawn_92 fX1_138 rfl (zPan.k hR.sh) (j := 25) (by decide) rfl (zPan.f25 hR.sh) ?_
                  refine zT.iconst dX1_drawn_95 ?_
                  refine zT.iload 4 dX1_drawn_96 rfl ?_
                  refine zT.imul dX1_drawn_98 ?_
                  refine zT.iald dX1_drawn_99 (zPan.a25 hR.sh) (by first | assumption | exact zq_i _ | exact zand_i _ _ | exact zor_i _ _ | exact zxor_i _ _ | exact zN _ | omega) (by rw [(zPan.n25 hR.sh)]; first | assumption | exact zq_i _ | exact zand_i _ _ | exact zor_i _ _ | exact zxor_i _ _ | exact zN _ | omega) (fun z99 => ?_)
                  have r99 : m2 (x + 39) (2 * (s + 1)) = m (x + 39) (2 * (s + 1)) := by rw [em2, zup_ne (by omega)]
                  rw [r99] at z99 ⊢
                  refine zT.aload_n 0 dX1_drawn_100 rfl rfl ?_
                  refine zT.getF dX1_drawn_101 fX1_138 rfl (zPan.k hR.sh) (j := 25) (by decide) rfl (zPan.f25 hR.sh) ?_
                  refine zT.iconst dX1_drawn_104 ?_
                  refine zT.iload 4 dX1_drawn_105 rfl ?_
                  refine zT.imul dX1_drawn_107 ?_
                  refine zT.iconst dX1_drawn_108 ?_
                  refine zT.iadd dX1_drawn_109 ?_
                  refine zT.iald dX1_drawn_110 (zPan.a25 hR.sh) (by first | assumption | exact zq_i _ | exact zand_i _ _ | exact zor_i _ _ | exact zxor_i _ _ | exact zN _ | omega) (by rw [(zPan.n25 hR.sh)]; first | assumption | exact zq_i _ | exact zand_i _ _ | exact zor_i _ _ | exact zxor_i _ _ | exact zN _ | omega) (fun z110 => ?_)
                  have r110 : m2 (x + 39) ((2 * (s + 1)) + 1) = m (x + 39) ((2 * (s + 1)) + 1) := by rw [em2, zup_ne (by omega)]
                  rw [r110] at z110 ⊢
                  refine zT.iadd dX1_drawn_111 ?_
                  refine zT.if_le (tgt := 119) dX1_drawn_112 (by decide) (by first | assumption | exact zq_i _ | exact zand_i _ _ | exact zor_i _ _ | exact zxor_i _ _ | exact zN _ | omega) (fun c112 => ?_) (fun c112 => ?_)
                  · refine zT.iconst dX1_drawn_119 ?_
                    refine zT.isub dX1_drawn_120 ?_
                    refine zT.istore_n 3 dX1_drawn_121 rfl (by decide) (zpreU rfl) ?_
                    show zT G _ _ _ [zR x, zI on, zU, zI (k - 0), zI (s + 1)] _ _ _ _ _ _ _
                    refine zT.goto (tgt := 74) dX1_drawn_122 (by decide) ?_
                    have eb74 : m2 = zup m x 36 (fSd (m x 36)) := by
                      rw [em2]
                    refine zT.meq eb74 ?_
                    exact ih74 _ _ (by first | assumption | exact zq_i _ | exact zand_i _ _ | exact zor_i _ _ | exact zxor_i _ _ | exact zN _ | omega) (by first | assumption | exact zq_i _ | exact zand_i _ _ | exact zor_i _ _ | exact zxor_i _ _ | exact zN _ | omega) (by first | assumption | exact zq_i _ | exact zand_i _ _ | exact zor_i _ _ | exact zxor_i _ _ | exact zN _ | omega) (by first | assumption | exact zq_i _ | exact zand_i _ _ | exact zor_i _ _ | exact zxor_i _ _ | exact zN _ | omega) (by
                        exact fun q => by
                          have q9 := hkA (by omega)
                          rcases acnt_s (P := fCd (m (x + 39)) on) (k := s + 1) (by omega) with ⟨p, e⟩ | ⟨p, e⟩
                          · have p2 := p.2
                            first
                              | omega
                              | exact absurd ‹zbit on (s + 1)› p.1
                          · first
                              | omega
                              | exact absurd ⟨by assumption, by omega⟩ p) (by
                        exact fun q => by
                          have q9 := hkA (by omega)
                          first
                            | (exfalso; omega)
                            | exact ⟨by omega, ⟨by assumption, by omega⟩, by omega⟩) (by omega)
                  · refine zT.iconst dX1_drawn_115 ?_
                    refine zT.goto (tgt := 120) dX1_drawn_116 (by decide) ?_
                    refine zT.isub dX1_drawn_120 ?_
                    refine zT.istore_n 3 dX1_drawn_121 rfl (by decide) (zpreU rfl) ?_
                    show zT G _ _ _ [zR x, zI on, zU, zI (k - 1), zI (s + 1)] _ _ _ _ _ _ _
                    refine zT.goto (tgt := 74) dX1_drawn_122 (by decide) ?_
                    have eb74 : m2 = zup m x 36 (fSd (m x 36)) := by
                      rw [em2]
                    refine zT.meq eb74 ?_
                    exact ih74 _ _ (by first | assumption | exact zq_i _ | exact zand_i _ _ | exact zor_i _ _ | exact zxor_i _ _ | exact zN _ | omega) (by first | assumption | exact zq_i _ | exact zand_i _ _ | exact zor_i _ _ | exact zxor_i _ _ | exact zN _ | omega) (by first | assumption | exact zq_i _ | exact zand_i _ _ | exact zor_i _ _ | exact zxor_i _ _ | exact zN _ | omega) (by first | assumption | exact zq_i _ | exact zand_i _ _ | exact zor_i _ _ | exact zxor_i _ _ | exact zN _ | omega) (by
                        exact fun q => by
                          have q9 := hkA (by omega)
                          rcases acnt_s (P := fCd (m (x + 39)) on) (k := s + 1) (by omega) with ⟨p, e⟩ | ⟨p, e⟩
                          · have p2 := p.2
                            first
                              | omega
                              | exact absurd ‹zbit on (s + 1)› p.1
                          · first
                              | omega
                              | exact absurd ⟨by assumption, by omega⟩ p) (by
                        exact fun q => by
                          have q9 := hkA (by omega)
                          first
                            | (exfalso; omega)
                            | exact ⟨by omega, ⟨by assumption, by omega⟩, by omega⟩) (by omega)
          refine zT.loc (V' := [zR x, zI on, zU, zI D9, zI (-1)]) ?_ ⟨Or.inr rfl, Or.inr rfl, Or.inl rfl, Or.inr rfl, Or.inr rfl, trivial⟩
          have eb74 : m1 = zup m x 36 (fSd (m x 36)) := by
            rw [em1]
          refine zT.meq eb74 ?_
          exact L74 _ _ _ (by decide) (by omega) (by omega) (by omega) (by exact fun _ => by rw [show (-1 : Int) + 1 = 0 from rfl, acnt_0]; omega) (by exact fun q => by omega) (Nat.lt_succ_self _)
        · refine zT.iconst dX1_drawn_63 ?_
          refine zT.iret dX1_drawn_64 rfl ?_
          rw [eQ9]
          exact ⟨by rw [if_pos (by omega)], rfl, by rw [if_pos (by omega)]⟩
      · refine zT.iload_n 2 dX1_drawn_15 rfl rfl ?_
        refine zT.iload_n 1 dX1_drawn_16 rfl rfl ?_
        refine zT.iload_n 3 dX1_drawn_17 rfl rfl ?_
        have ha0 := hL (2 * s) (by omega) (by omega)
        have ha1 := hL (2 * s + 1) (by omega) (by omega)
        refine zT.callS (M' := mX1_has) [zI on, zI s] [zI v] dX1_drawn_18 kX1_424 rfl rfl (C_X1_has (by first | assumption | exact zq_i _ | exact zand_i _ _ | exact zor_i _ _ | exact zxor_i _ _ | exact zN _ | omega) (by first | assumption | exact zq_i _ | exact zand_i _ _ | exact zor_i _ _ | exact zxor_i _ _ | exact zN _ | omega) (by first | assumption | exact zq_i _ | exact zand_i _ _ | exact zor_i _ _ | exact zxor_i _ _ | exact zN _ | omega)) (by decide) (k' := 0) (n' := 0) (by omega) (by omega) (by simp only [List.map, zcI, zcJ, zcR, List.sum_cons, List.sum_nil]; decide) (zdk (v := some (zI (zq (zbit on s)))) ?_) (fun _ _ _ _ h => h.elim)
        show zT G _ _ _ _ [zI (zq (zbit on s)), zI v] _ _ _ _ _ _
        refine zT.if_neB (tgt := 50) dX1_drawn_21 (by decide) (fun c21 => ?_) (fun c21 => ?_)
        · refine zT.iconst dX1_drawn_50 ?_
          refine zT.iadd dX1_drawn_51 ?_
          refine zT.istore_n 2 dX1_drawn_52 rfl (by decide) (zpre1 rfl (zcI _)) ?_
          show zT G _ _ _ [zR x, zI on, zI (v + 0), zI s, zU] _ _ _ _ _ _ _
          refine zT.iinc 3 dX1_drawn_53 rfl (by decide) (zpre1 rfl (zcI _)) ?_
          show zT G _ _ _ [zR x, zI on, zI (v + 0), zI (s + 1), zU] _ _ _ _ _ _ _
          refine zT.goto (tgt := 4) dX1_drawn_56 (by decide) ?_
          exact ih4 _ _ (by first | assumption | exact zq_i _ | exact zand_i _ _ | exact zor_i _ _ | exact zxor_i _ _ | exact zN _ | omega) (by first | assumption | exact zq_i _ | exact zand_i _ _ | exact zor_i _ _ | exact zxor_i _ _ | exact zN _ | omega) (by
              rcases acnt_s (P := fCd (m (x + 39)) on) s0 with ⟨q, e⟩ | ⟨q, e⟩
              · have q1 := q.1
                have q2 := q.2
                first | omega | exact absurd ‹zbit on s› q1
              · first
                  | omega
                  | exact absurd ⟨by assumption, by omega⟩ q) (by omega)
        · refine zT.aload_n 0 dX1_drawn_24 rfl rfl ?_
          refine zT.getF dX1_drawn_25 fX1_138 rfl (zPan.k hR.sh) (j := 25) (by decide) rfl (zPan.f25 hR.sh) ?_
          refine zT.iconst dX1_drawn_28 ?_
          refine zT.iload_n 3 dX1_drawn_29 rfl rfl ?_
          refine zT.imul dX1_drawn_30 ?_
          refine zT.iald dX1_drawn_31 (zPan.a25 hR.sh) (by first | assumption | exact zq_i _ | exact zand_i _ _ | exact zor_i _ _ | exact zxor_i _ _ | exact zN _ | omega) (by rw [(zPan.n25 hR.sh)]; first | assumption | exact zq_i _ | exact zand_i _ _ | exact zor_i _ _ | exact zxor_i _ _ | exact zN _ | omega) (fun z31 => ?_)
          refine zT.aload_n 0 dX1_drawn_32 rfl rfl ?_
          refine zT.getF dX1_drawn_33 fX1_138 rfl (zPan.k hR.sh) (j := 25) (by decide) rfl (zPan.f25 hR.sh) ?_
          refine zT.iconst dX1_drawn_36 ?_
          refine zT.iload_n 3 dX1_drawn_37 rfl rfl ?_
          refine zT.imul dX1_drawn_38 ?_
          refine zT.iconst dX1_drawn_39 ?_
          refine zT.iadd dX1_drawn_40 ?_
          refine zT.iald dX1_drawn_41 (zPan.a25 hR.sh) (by first | assumption | exact zq_i _ | exact zand_i _ _ | exact zor_i _ _ | exact zxor_i _ _ | exact zN _ | omega) (by rw [(zPan.n25 hR.sh)]; first | assumption | exact zq_i _ | exact zand_i _ _ | exact zor_i _ _ | exact zxor_i _ _ | exact zN _ | omega) (fun z41 => ?_)
          refine zT.iadd dX1_drawn_42 ?_
          refine zT.if_le (tgt := 50) dX1_drawn_43 (by decide) (by first | assumption | exact zq_i _ | exact zand_i _ _ | exact zor_i _ _ | exact zxor_i _ _ | exact zN _ | omega) (fun c43 => ?_) (fun c43 => ?_)
          · refine zT.iconst dX1_drawn_50 ?_
            refine zT.iadd dX1_drawn_51 ?_
            refine zT.istore_n 2 dX1_drawn_52 rfl (by decide) (zpre1 rfl (zcI _)) ?_
            show zT G _ _ _ [zR x, zI on, zI (v + 0), zI s, zU] _ _ _ _ _ _ _
            refine zT.iinc 3 dX1_drawn_53 rfl (by decide) (zpre1 rfl (zcI _)) ?_
            show zT G _ _ _ [zR x, zI on, zI (v + 0), zI (s + 1), zU] _ _ _ _ _ _ _
            refine zT.goto (tgt := 4) dX1_drawn_56 (by decide) ?_
            exact ih4 _ _ (by first | assumption | exact zq_i _ | exact zand_i _ _ | exact zor_i _ _ | exact zxor_i _ _ | exact zN _ | omega) (by first | assumption | exact zq_i _ | exact zand_i _ _ | exact zor_i _ _ | exact zxor_i _ _ | exact zN _ | omega) (by
                rcases acnt_s (P := fCd (m (x + 39)) on) s0 with ⟨q, e⟩ | ⟨q, e⟩
                · have q1 := q.1
                  have q2 := q.2
                  first | omega | exact absurd ‹zbit on s› q1
                · first
                    | omega
                    | exact absurd ⟨by assumption, by omega⟩ q) (by omega)
          · refine zT.iconst dX1_drawn_46 ?_
            refine zT.goto (tgt := 51) dX1_drawn_47 (by decide) ?_
            refine zT.iadd dX1_drawn_51 ?_
            refine zT.istore_n 2 dX1_drawn_52 rfl (by decide) (zpre1 rfl (zcI _)) ?_
            show zT G _ _ _ [zR x, zI on, zI (v + 1), zI s, zU] _ _ _ _ _ _ _
            refine zT.iinc 3 dX1_drawn_53 rfl (by decide) (zpre1 rfl (zcI _)) ?_
            show zT G _ _ _ [zR x, zI on, zI (v + 1), zI (s + 1), zU] _ _ _ _ _ _ _
            refine zT.goto (tgt := 4) dX1_drawn_56 (by decide) ?_
            exact ih4 _ _ (by first | assumption | exact zq_i _ | exact zand_i _ _ | exact zor_i _ _ | exact zxor_i _ _ | exact zN _ | omega) (by first | assumption | exact zq_i _ | exact zand_i _ _ | exact zor_i _ _ | exact zxor_i _ _ | exact zN _ | omega) (by
                rcases acnt_s (P := fCd (m (x + 39)) on) s0 with ⟨q, e⟩ | ⟨q, e⟩
                · have q1 := q.1
                  have q2 := q.2
                  first | omega | exact absurd ‹zbit on s› q1
                · first
                    | omega
                    | exact absurd ⟨by assumption, by omega⟩ q) (by omega)
  exact L4 _ _ _ (by first | assumption | exact zq_i _ | exact zand_i _ _ | exact zor_i _ _ | exact zxor_i _ _ | exact zN _ | omega) (by first | assumption | exact zq_i _ | exact zand_i _ _ | exact zor_i _ _ | exact zxor_i _ _ | exact zN _ | omega) (by rfl) (Nat.lt_succ_self _)

theorem zup_id {m : zMm} {a i : Int} : zup m a i (m a i) = m := by
  funext b j
  by_cases h : b = a ∧ j = i
  · rw [h.1, h.2, zup_at]
  · exact zup_ne h
/-- the same with its end written as one word changed -/
theorem C_X1_drawn2 {G : zG} {S : zS} {m : zMm} {x : Int} {A : zMm} (hR : rel S m x A) {on : Int} (ho : zi on) (hL : ∀ j, 0 ≤ j → j < 2 * (aK (A 0 1023) (A 2)) 5 → 0 ≤ m (x + 39) j ∧ m (x + 39) j ≤ 20) {c D E : Int} (hc : c = acnt (fCd (m (x + 39)) on) ((aK (A 0 1023) (A 2)) 5)) (hD : D = zite (c = 0) (-1) (fKt (m (x + 39)) on (fDr (m x 36) c) ((aK (A 0 1023) (A 2)) 5))) (hE : E = zite (c = 0) (m x 36) (fSd (m x 36))) : zC G mX1_drawn 2 0 0 [zR x, zI on] S m (zDet (some (zI D)) S (zup m x 36 E)) zNX := by
  have h := C_X1_drawn (G := G) hR ho hL
  rw [← hc] at h
  by_cases h0 : c = 0
  · rw [if_pos h0, if_pos h0] at h
    rw [zite_t h0] at hD hE
    rw [hD, hE, zup_id]
    exact h
  · rw [if_neg h0, if_neg h0] at h
    rw [zite_f h0] at hD hE
    rw [hD, hE]
    exact h
