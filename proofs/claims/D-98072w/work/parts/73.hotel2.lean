/-! hotel: the model (written by gen/m_hotel.py) -/
/-- only the hotel's cells of the model change -/
def zHm (b : Int) (m m2 : zMm) : Prop := ∀ a j, a ≠ b + 31 → a ≠ b + 32 → ¬ (a = b ∧ j = 1053) → m2 a j = m a j
theorem zHm.rf {b : Int} {m : zMm} : zHm b m m := fun _ _ _ _ _ => rfl
theorem zHm.up {b a i v : Int} {m m2 : zMm} (h : zHm b m m2) (ha : a = b + 31 ∨ a = b + 32 ∨ (a = b ∧ i = 1053)) : zHm b m (zup m2 a i v) := fun c j h1 h2 h3 => by
  rw [zup_ne (by omega)]
  exact h c j h1 h2 h3
theorem zHm.inn {b : Int} {m m2 : zMm} (h : zHm b m m2) : zIn b m m2 := fun a ha j => h a j (by omega) (by omega) (by omega)
theorem yEw.pans {b n : Int} {m m2 : zMm} {A : zMm} (h : yEw m b A) (hz : zHm b m m2) (h1 : m2 b 1053 = n) : yEw m2 b (uPn A n (m2 (b + 32))) := fun o j q => by
  unfold uPn
  by_cases e : o = 32
  · rw [if_pos e, e]
  · rw [if_neg e]
    by_cases e2 : o = 0 ∧ j = 1053
    · rw [if_pos e2, e2.1, e2.2, Int.add_zero]; exact h1
    · rw [if_neg e2, hz _ _ (by unfold zUw at q; omega) (by omega) (by omega)]
      exact h o j q
theorem C_X13_hotel {G : zG} {S : zS} {m : zMm} {b : Int} {A : zMm} (hb : zMod S b) (hA : yEq m b A) (hV : aVd A) {n u a : Int} (hn : zi n) (hu : zi u) (ha : zi a) : zC G mX13_hotel 3 0 0 [zR b, zI n, zI u, zI a] S m (/- qabs -/ (fun v S' m' => v = some (zI (if (1 ≤ n ∧ n ≤ 200) ∧ (1 ≤ u ∧ u ≤ 20) ∧ (1 ≤ a ∧ a ≤ 400) ∧ 2 ≤ a / u ∧ (aK (A 0 1023) (A 2)) 7 ≠ 0 then hTb 999999 (aK (A 0 1023) (A 2)) ((aK (A 0 1023) (A 2)) 7) ((aK (A 0 1023) (A 2)) 7).toNat ((2 * n + a / u - 1) / (a / u)) else -1)) ∧ S' = S ∧ zIn b m m' ∧ (((1 ≤ n ∧ n ≤ 200) ∧ (1 ≤ u ∧ u ≤ 20) ∧ (1 ≤ a ∧ a ≤ 400) ∧ 2 ≤ a / u ∧ (aK (A 0 1023) (A 2)) 7 ≠ 0) → yEw m' b (uPn (uLay (zup A 0 1000 0)) ((aK (A 0 1023) (A 2)) 7) (m' (b + 32))) ∧ ∀ i, 0 ≤ i → i < (aK (A 0 1023) (A 2)) 7 → m' (b + 32) i = hPn 999999 (aK (A 0 1023) (A 2)) ((aK (A 0 1023) (A 2)) 7) ((2 * n + a / u - 1) / (a / u)) i) ∧ (¬ ((1 ≤ n ∧ n ≤ 200) ∧ (1 ≤ u ∧ u ≤ 20) ∧ (1 ≤ a ∧ a ≤ 400) ∧ 2 ≤ a / u ∧ (aK (A 0 1023) (A 2)) 7 ≠ 0) → yEw m' b (uLay (zup A 0 1000 0))))) zNX := by
  have ym := hA.R hV
  have nm := ym.n
  have sm := ym.s
  have rm := ym.r
  have hk := hV.ki.1
  have hk0 := hk.1
  have hp0 := hV.pl.1
  have hp1 := hV.pl.2.1
  have hq1 : 1 ≤ u → 0 ≤ a → 0 ≤ a / u ∧ a / u ≤ a := fun h1 h2 => ⟨Int.ediv_nonneg h2 (by omega), Int.ediv_le_self _ h2⟩
  obtain ⟨NS, hNS⟩ : ∃ z, z = (aK (A 0 1023) (A 2)) 7 := ⟨_, rfl⟩
  refine zC.of [zR b, zI n, zI u, zI a, zU, zU, zU, zU, zU, zU] (by decide) rfl (zEn1 (zcR _) (zEn1 (zcI _) (zEn1 (zcI _) (zEn1 (zcI _) (zEn0 (by simp)))))) rfl ?_
  refine zT.rng hb.a1014 (fun zN => ?_)
  obtain ⟨Q9, eQ9⟩ : ∃ z : zQt, z = (/- qabs -/ (fun v S' m' => v = some (zI (if (1 ≤ n ∧ n ≤ 200) ∧ (1 ≤ u ∧ u ≤ 20) ∧ (1 ≤ a ∧ a ≤ 400) ∧ 2 ≤ a / u ∧ (aK (A 0 1023) (A 2)) 7 ≠ 0 then hTb 999999 (aK (A 0 1023) (A 2)) ((aK (A 0 1023) (A 2)) 7) ((aK (A 0 1023) (A 2)) 7).toNat ((2 * n + a / u - 1) / (a / u)) else -1)) ∧ S' = S ∧ zIn b m m' ∧ (((1 ≤ n ∧ n ≤ 200) ∧ (1 ≤ u ∧ u ≤ 20) ∧ (1 ≤ a ∧ a ≤ 400) ∧ 2 ≤ a / u ∧ (aK (A 0 1023) (A 2)) 7 ≠ 0) → yEw m' b (uPn (uLay (zup A 0 1000 0)) ((aK (A 0 1023) (A 2)) 7) (m' (b + 32))) ∧ ∀ i, 0 ≤ i → i < (aK (A 0 1023) (A 2)) 7 → m' (b + 32) i = hPn 999999 (aK (A 0 1023) (A 2)) ((aK (A 0 1023) (A 2)) 7) ((2 * n + a / u - 1) / (a / u)) i) ∧ (¬ ((1 ≤ n ∧ n ≤ 200) ∧ (1 ≤ u ∧ u ≤ 20) ∧ (1 ≤ a ∧ a ≤ 400) ∧ 2 ≤ a / u ∧ (aK (A 0 1023) (A 2)) 7 ≠ 0) → yEw m' b (uLay (zup A 0 1000 0))))) := ⟨_, rfl⟩
  rw [← eQ9]
  refine zT.aload_n 0 dX13_hotel_0 rfl rfl ?_
  refine zT.iconst dX13_hotel_1 ?_
  refine zT.putI dX13_hotel_2 fX13_122 zs_1000 rfl (zMod.k hb) (j := 0) (by decide) rfl (by first | assumption | exact zq_i _ | exact zand_i _ _ | exact zor_i _ _ | exact zN _ | omega) ?_
  obtain ⟨m1, em1⟩ : ∃ z, z = zup m b 1000 0 := ⟨_, rfl⟩
  rw [← em1]
  have ym1 : yR m1 b A := by rw [em1]; exact ym.up (by omega)
  have nm1 := ym1.n
  have sm1 := ym1.s
  have rm1 := ym1.r
  refine zT.aload_n 0 dX13_hotel_5 rfl rfl ?_
  refine zT.callV (M' := mX13_lay) (b := b) [] [] dX13_hotel_6 kX13_202 rfl rfl (ci := 10) (r := (RX13, TX13, 62)) rfl (zMod.k hb) (C_X13_lay hb) (by decide) (k' := 0) (n' := 0) (by omega) (by omega) (by decide) (zdk (v := none) ?_) (fun _ _ _ _ h => h.elim)
  show zT G _ _ _ _ [] _ _ _ _ _ _
  obtain ⟨m2, em2⟩ : ∃ z, z = ylaid m1 b := ⟨_, rfl⟩
  rw [← em2]
  have ym2 : yL m2 b A := by rw [em2]; exact hA.L2 hV (fun j => by rw [em1, zup_ne (by omega)]) (by rw [em1, zup_ne (by omega)])
  have nm2 := ym2.1.n
  have sm2 := ym2.1.s
  have rm2 := ym2.1.r
  have hI2 : zIn b m m2 := by rw [em2, em1]; exact zIn.rf.up0.lay
  have hE2 : yEw m2 b (uLay (zup A 0 1000 0)) := by rw [em2, em1]; exact hA.up0.lay.w
  refine zT.iload_n 1 dX13_hotel_9 rfl rfl ?_
  refine zT.iconst dX13_hotel_10 ?_
  refine zT.sipush dX13_hotel_11 ?_
  refine zT.callS (M' := mX13_isIn) [zI n, zI 1, zI 200] [] dX13_hotel_14 kX13_189 rfl rfl (C_X13_isIn (by first | assumption | exact zq_i _ | exact zand_i _ _ | exact zor_i _ _ | exact zN _ | omega) (by first | assumption | exact zq_i _ | exact zand_i _ _ | exact zor_i _ _ | exact zN _ | omega) (by first | assumption | exact zq_i _ | exact zand_i _ _ | exact zor_i _ _ | exact zN _ | omega)) (by decide) (k' := 0) (n' := 0) (by omega) (by omega) (by decide) (zdk (v := some (zI (zq (1 ≤ n ∧ n ≤ 200)))) ?_) (fun _ _ _ _ h => h.elim)
  show zT G _ _ _ _ [zI (zq (1 ≤ n ∧ n ≤ 200))] _ _ _ _ _ _
  refine zT.if_eqB (tgt := 41) dX13_hotel_17 (by decide) (fun c17 => ?_) (fun c17 => ?_)
  · refine zT.iconst dX13_hotel_41 ?_
    refine zT.iret dX13_hotel_42 rfl ?_
    rw [eQ9]
    refine ⟨by rw [if_neg (by omega)], rfl, hI2, fun q => by omega, fun _ => hE2⟩
  · refine zT.iload_n 2 dX13_hotel_20 rfl rfl ?_
    refine zT.iconst dX13_hotel_21 ?_
    refine zT.bipush dX13_hotel_22 ?_
    refine zT.callS (M' := mX13_isIn) [zI u, zI 1, zI 20] [] dX13_hotel_24 kX13_189 rfl rfl (C_X13_isIn (by first | assumption | exact zq_i _ | exact zand_i _ _ | exact zor_i _ _ | exact zN _ | omega) (by first | assumption | exact zq_i _ | exact zand_i _ _ | exact zor_i _ _ | exact zN _ | omega) (by first | assumption | exact zq_i _ | exact zand_i _ _ | exact zor_i _ _ | exact zN _ | omega)) (by decide) (k' := 0) (n' := 0) (by omega) (by omega) (by decide) (zdk (v := some (zI (zq (1 ≤ u ∧ u ≤ 20)))) ?_) (fun _ _ _ _ h => h.elim)
    show zT G _ _ _ _ [zI (zq (1 ≤ u ∧ u ≤ 20))] _ _ _ _ _ _
    refine zT.if_eqB (tgt := 41) dX13_hotel_27 (by decide) (fun c27 => ?_) (fun c27 => ?_)
    · refine zT.iconst dX13_hotel_41 ?_
      refine zT.iret dX13_hotel_42 rfl ?_
      rw [eQ9]
      refine ⟨by rw [if_neg (by omega)], rfl, hI2, fun q => by omega, fun _ => hE2⟩
    · refine zT.iload_n 3 dX13_hotel_30 rfl rfl ?_
      refine zT.iconst dX13_hotel_31 ?_
      refine zT.sipush dX13_hotel_32 ?_
      refine zT.callS (M' := mX13_isIn) [zI a, zI 1, zI 400] [] dX13_hotel_35 kX13_189 rfl rfl (C_X13_isIn (by first | assumption | exact zq_i _ | exact zand_i _ _ | exact zor_i _ _ | exact zN _ | omega) (by first | assumption | exact zq_i _ | exact zand_i _ _ | exact zor_i _ _ | exact zN _ | omega) (by first | assumption | exact zq_i _ | exact zand_i _ _ | exact zor_i _ _ | exact zN _ | omega)) (by decide) (k' := 0) (n' := 0) (by omega) (by omega) (by decide) (zdk (v := some (zI (zq (1 ≤ a ∧ a ≤ 400)))) ?_) (fun _ _ _ _ h => h.elim)
      show zT G _ _ _ _ [zI (zq (1 ≤ a ∧ a ≤ 400))] _ _ _ _ _ _
      refine zT.if_neB (tgt := 43) dX13_hotel_38 (by decide) (fun c38 => ?_) (fun c38 => ?_)
      · refine zT.iload_n 1 dX13_hotel_43 rfl rfl ?_
        refine zT.iload_n 2 dX13_hotel_44 rfl rfl ?_
        refine zT.iload_n 3 dX13_hotel_45 rfl rfl ?_
        refine zT.callS (M' := mX13_placesFor) [zI n, zI u, zI a] [] dX13_hotel_46 kX13_404 rfl rfl (C_X13_placesFor (by omega) (by omega) (by omega)) (by decide) (k' := 0) (n' := 0) (by omega) (by omega) (by decide) (zdk (v := some (zI (if 2 ≤ a / u then (2 * n + a / u - 1) / (a / u) else -1))) ?_) (fun _ _ _ _ h => h.elim)
        show zT G _ _ _ _ [zI (if 2 ≤ a / u then (2 * n + a / u - 1) / (a / u) else -1)] _ _ _ _ _ _
        obtain ⟨need, hneed0⟩ : ∃ z, z = if 2 ≤ a / u then (2 * n + a / u - 1) / (a / u) else -1 := ⟨_, rfl⟩
        rw [← hneed0]
        have hN1 : 2 ≤ a / u → need = (2 * n + a / u - 1) / (a / u) ∧ 0 ≤ need ∧ need ≤ 200 := fun h2 => by
          have hnb : 0 ≤ (2 * n + a / u - 1) / (a / u) ∧ (2 * n + a / u - 1) / (a / u) ≤ 200 := by
            refine ⟨Int.ediv_nonneg (by omega) (by omega), ?_⟩
            have e : (2 * n + a / u - 1) / (a / u) < 201 := Int.ediv_lt_of_lt_mul (by omega) (by have : 201 * 2 ≤ 201 * (a / u) := Int.mul_le_mul_of_nonneg_left (by omega) (by omega); omega)
            omega
          rw [if_pos h2] at hneed0
          exact ⟨hneed0, by omega, by omega⟩
        have hN2 : ¬ 2 ≤ a / u → need = -1 := fun h2 => by rw [if_neg h2] at hneed0; exact hneed0
        show zT G _ _ _ _ [zI need] _ _ _ _ _ _
        refine zT.istore 4 dX13_hotel_49 (by decide) (zpre1 rfl (zcI _)) ?_
        show zT G _ _ _ [zR b, zI n, zI u, zI a, zI need, zU, zU, zU, zU, zU] _ _ _ _ _ _ _
        refine zT.aload_n 0 dX13_hotel_51 rfl rfl ?_
        refine zT.getF dX13_hotel_52 fX13_13 rfl (zMod.k hb) (j := 14) (by decide) rfl (zMod.f1014 hb) ?_
        refine zT.bipush dX13_hotel_55 ?_
        refine zT.iald dX13_hotel_57 (zMod.a1014 hb) (by first | assumption | exact zq_i _ | exact zand_i _ _ | exact zor_i _ _ | exact zN _ | omega) (by rw [(zMod.n1014 hb)]; first | assumption | exact zq_i _ | exact zand_i _ _ | exact zor_i _ _ | exact zN _ | omega) (fun z57 => ?_)
        rw [show m2 (b + 2) 7 = NS by rw [hNS]; exact ym2.2 7 (by omega) (by omega)]
        show zT G _ _ _ _ [zI NS] _ _ _ _ _ _
        refine zT.istore 5 dX13_hotel_58 (by decide) (zpre1 rfl (zcI _)) ?_
        show zT G _ _ _ [zR b, zI n, zI u, zI a, zI need, zI NS, zU, zU, zU, zU] _ _ _ _ _ _ _
        refine zT.iload 4 dX13_hotel_60 rfl ?_
        refine zT.iconst dX13_hotel_62 ?_
        refine zT.ic_eq (tgt := 71) dX13_hotel_63 (by decide) (by first | assumption | exact zq_i _ | exact zand_i _ _ | exact zor_i _ _ | exact zN _ | omega) (by first | assumption | exact zq_i _ | exact zand_i _ _ | exact zor_i _ _ | exact zN _ | omega) (fun c63 => ?_) (fun c63 => ?_)
        · refine zT.iconst dX13_hotel_71 ?_
          refine zT.iret dX13_hotel_72 rfl ?_
          rw [eQ9]
          exact ⟨by rw [if_neg (fun z => by have := hN1 z.2.2.2.1; omega)], rfl, hI2, fun z => by have := hN1 z.2.2.2.1; omega, fun _ => hE2⟩
        · refine zT.iload 5 dX13_hotel_66 rfl ?_
          refine zT.if_ne (tgt := 73) dX13_hotel_68 (by decide) (by first | assumption | exact zq_i _ | exact zand_i _ _ | exact zor_i _ _ | exact zN _ | omega) (fun c68 => ?_) (fun c68 => ?_)
          · have h2 : 2 ≤ a / u := Classical.byContradiction fun q => by have := hN2 q; omega
            obtain ⟨hneed, n0, n1⟩ := hN1 h2
            refine zT.iconst dX13_hotel_73 ?_
            refine zT.istore 6 dX13_hotel_74 (by decide) (zpre1 rfl (zcI _)) ?_
            show zT G _ _ _ [zR b, zI n, zI u, zI a, zI need, zI NS, zI 0, zU, zU, zU] _ _ _ _ _ _ _
            have L76 : ∀ (N : Nat) (mA : zMm) (v : Int), (zHm b m2 mA) → (0 ≤ v) → (v ≤ need + 1) → (∀ w, 0 ≤ w → w < v → mA (b + 31) (201 * NS + w) = hTb 999999 (aK (A 0 1023) (A 2)) NS 0 w) → ((need + 1 - v).toNat) < N → zT G mX13_hotel 3 76 [zR b, zI n, zI u, zI a, zI need, zI NS, zI v, zU, zU, zU] [] S mA 0 0 Q9 zNX := by
              intro N
              induction N with
              | zero => intro mA v hz v0 v1 ht hN; exact absurd hN (Nat.not_lt_zero _)
              | succ N ih76 =>
                intro mA v hz v0 v1 ht hN
                refine zT.iload 6 dX13_hotel_76 rfl ?_
                refine zT.iload 4 dX13_hotel_78 rfl ?_
                refine zT.ic_gt (tgt := 115) dX13_hotel_80 (by decide) (by first | assumption | exact zq_i _ | exact zand_i _ _ | exact zor_i _ _ | exact zN _ | omega) (by first | assumption | exact zq_i _ | exact zand_i _ _ | exact zor_i _ _ | exact zN _ | omega) (fun c80 => ?_) (fun c80 => ?_)
                · refine zT.iload 5 dX13_hotel_115 rfl ?_
                  refine zT.iconst dX13_hotel_117 ?_
                  refine zT.isub dX13_hotel_118 ?_
                  refine zT.istore 6 dX13_hotel_119 (by decide) (zpre1 rfl (zcI _)) ?_
                  show zT G _ _ _ [zR b, zI n, zI u, zI a, zI need, zI NS, zI (NS - 1), zU, zU, zU] _ _ _ _ _ _ _
                  have L121 : ∀ (N : Nat) (mA : zMm) (k : Int), (zHm b m2 mA) → (-1 ≤ k) → (k < NS) → (∀ r w, k < r → r ≤ NS → 0 ≤ w → w ≤ need → mA (b + 31) (201 * r + w) = hTb 999999 (aK (A 0 1023) (A 2)) NS (NS - r).toNat w) → ((k + 1).toNat) < N → zT G mX13_hotel 3 121 [zR b, zI n, zI u, zI a, zI need, zI NS, zI k, zU, zU, zU] [] S mA 0 0 Q9 zNX := by
                    intro N
                    induction N with
                    | zero => intro mA k hz k0 k1 ht hN; exact absurd hN (Nat.not_lt_zero _)
                    | succ N ih121 =>
                      intro mA k hz k0 k1 ht hN
                      refine zT.iload 6 dX13_hotel_121 rfl ?_
                      refine zT.if_lt (tgt := 284) dX13_hotel_123 (by decide) (by first | assumption | exact zq_i _ | exact zand_i _ _ | exact zor_i _ _ | exact zN _ | omega) (fun c123 => ?_) (fun c123 => ?_)
                      · refine zT.iload 4 dX13_hotel_284 rfl ?_
                        refine zT.istore 6 dX13_hotel_286 (by decide) (zpre1 rfl (zcI _)) ?_
                        show zT G _ _ _ [zR b, zI n, zI u, zI a, zI need, zI NS, zI need, zU, zU, zU] _ _ _ _ _ _ _
                        refine zT.aload_n 0 dX13_hotel_288 rfl rfl ?_
                        refine zT.iload 5 dX13_hotel_289 rfl ?_
                        refine zT.putI dX13_hotel_291 fX13_431 zs_1053 rfl (zMod.k hb) (j := 53) (by decide) rfl (by first | assumption | exact zq_i _ | exact zand_i _ _ | exact zor_i _ _ | exact zN _ | omega) ?_
                        obtain ⟨m3, em3⟩ : ∃ z, z = zup mA b 1053 NS := ⟨_, rfl⟩
                        rw [← em3]
                        refine zT.iconst dX13_hotel_294 ?_
                        refine zT.istore 7 dX13_hotel_295 (by decide) (zpre1 rfl (zcI _)) ?_
                        show zT G _ _ _ [zR b, zI n, zI u, zI a, zI need, zI NS, zI need, zI 0, zU, zU] _ _ _ _ _ _ _
                        have L297 : ∀ (N : Nat) (mA : zMm) (k : Int) (l : Int), (zHm b m2 mA) → (0 ≤ k) → (k ≤ NS) → (∀ r w, 0 ≤ r → r ≤ NS → 0 ≤ w → w ≤ need → mA (b + 31) (201 * r + w) = hTb 999999 (aK (A 0 1023) (A 2)) NS (NS - r).toNat w) → (mA b 1053 = NS) → (l = hLf 999999 (aK (A 0 1023) (A 2)) NS need k.toNat) → (∀ j, 0 ≤ j → j < k → mA (b + 32) j = hPn 999999 (aK (A 0 1023) (A 2)) NS need j) → ((NS - k).toNat) < N → zT G mX13_hotel 3 297 [zR b, zI n, zI u, zI a, zI need, zI NS, zI l, zI k, zU, zU] [] S mA 0 0 Q9 zNX := by
                          intro N
                          induction N with
                          | zero => intro mA k l hz k0 k1 ht h35 hl hp9 hN; exact absurd hN (Nat.not_lt_zero _)
                          | succ N ih297 =>
                            intro mA k l hz k0 k1 ht h35 hl hp9 hN
                            have hlb := hLf_b (F := 999999) hk hNS n0 n1 k.toNat (by omega)
                            rw [← hl] at hlb
                            refine zT.iload 7 dX13_hotel_297 rfl ?_
                            refine zT.iload 5 dX13_hotel_299 rfl ?_
                            refine zT.ic_ge (tgt := 403) dX13_hotel_301 (by decide) (by first | assumption | exact zq_i _ | exact zand_i _ _ | exact zor_i _ _ | exact zN _ | omega) (by first | assumption | exact zq_i _ | exact zand_i _ _ | exact zor_i _ _ | exact zN _ | omega) (fun c301 => ?_) (fun c301 => ?_)
                            · refine zT.aload_n 0 dX13_hotel_403 rfl rfl ?_
                              refine zT.getF dX13_hotel_404 fX13_107 rfl (zMod.k hb) (j := 51) (by decide) rfl (zMod.f1051 hb) ?_
                              refine zT.iload 4 dX13_hotel_407 rfl ?_
                              refine zT.iald dX13_hotel_409 (zMod.a1051 hb) (by first | assumption | exact zq_i _ | exact zand_i _ _ | exact zor_i _ _ | exact zN _ | omega) (by rw [(zMod.n1051 hb)]; first | assumption | exact zq_i _ | exact zand_i _ _ | exact zor_i _ _ | exact zN _ | omega) (fun z409 => ?_)
                              refine zT.iret dX13_hotel_410 rfl ?_
                              rw [eQ9]
                              have hk9 : k = NS := by omega
                              have h9 := ht 0 need (by omega) (by omega) n0 (Int.le_refl _)
                              rw [show 201 * 0 + need = need by omega, show (NS - 0).toNat = NS.toNat by rw [Int.sub_zero]] at h9
                              refine ⟨?_, rfl, hI2.tr hz.inn, fun _ => ⟨?_, fun i i0 i1 => ?_⟩, fun q => ?_⟩
                              · rw [if_pos (by omega), ← hNS, ← hneed, h9]
                              · rw [← hNS]; exact hE2.pans hz h35
                              · rw [← hNS, ← hneed]; exact hp9 i i0 (by omega)
                              · exact absurd ⟨by omega, by omega, by omega, by omega, by omega⟩ q
                            · obtain ⟨SS, hSS⟩ : ∃ z, z = hSt 999999 (aK (A 0 1023) (A 2)) NS k l := ⟨_, rfl⟩
                              refine zT.aload_n 0 dX13_hotel_304 rfl rfl ?_
                              refine zT.getF dX13_hotel_305 fX13_110 rfl (zMod.k hb) (j := 52) (by decide) rfl (zMod.f1052 hb) ?_
                              refine zT.iload 7 dX13_hotel_308 rfl ?_
                              refine zT.iconst dX13_hotel_310 ?_
                              refine zT.iast dX13_hotel_311 (zMod.a1052 hb) (by first | assumption | exact zq_i _ | exact zand_i _ _ | exact zor_i _ _ | exact zN _ | omega) (by rw [(zMod.n1052 hb)]; first | assumption | exact zq_i _ | exact zand_i _ _ | exact zor_i _ _ | exact zN _ | omega) (by first | assumption | exact zq_i _ | exact zand_i _ _ | exact zor_i _ _ | exact zN _ | omega) ?_
                              obtain ⟨m4, em4⟩ : ∃ z, z = zup mA (b + 32) k 0 := ⟨_, rfl⟩
                              rw [← em4]
                              have L312 : ∀ (N : Nat) (mB : zMm) (l2 : Int) (p : Int) (f : Nat), (zHm b m2 mB) → (∀ r w, 0 ≤ r → r ≤ NS → 0 ≤ w → w ≤ need → mB (b + 31) (201 * r + w) = hTb 999999 (aK (A 0 1023) (A 2)) NS (NS - r).toNat w) → (mB b 1053 = NS) → (∀ j, 0 ≤ j → j < k → mB (b + 32) j = hPn 999999 (aK (A 0 1023) (A 2)) NS need j) → (mB (b + 32) k = p) → (0 ≤ l2 ∧ l2 ≤ need) → (l2 < f) → (0 ≤ p ∧ p + l2 ≤ 200) → (hGo (hTb 999999 (aK (A 0 1023) (A 2)) NS (NS - 1 - k).toNat) (hTb 999999 (aK (A 0 1023) (A 2)) NS (NS - k).toNat) ((aK (A 0 1023) (A 2)) (48 + 2 * k + 0)) f l2 p = SS) → l2.toNat < N → zT G mX13_hotel 3 312 [zR b, zI n, zI u, zI a, zI need, zI NS, zI l2, zI k, zU, zU] [] S mB 0 0 Q9 zNX := by
                                intro N
                                induction N with
                                | zero => intro mB l2 p f hz ht h35 hp9 hpk lb lf pb hT hN; exact absurd hN (Nat.not_lt_zero _)
                                | succ N ih312 =>
                                  intro mB l2 p f hz ht h35 hp9 hpk lb lf pb hT hN
                                  have htu := ht (k + 1) l2 (by omega) (by omega) lb.1 lb.2
                                  rw [show NS - (k + 1) = NS - 1 - k by omega] at htu
                                  have htc := ht k l2 (by omega) (by omega) lb.1 lb.2
                                  have hkk := hk.2.2.2 k (by omega) (by omega)
                                  have hk1k := hkk.2.2.2.2 (by omega)
                                  have hks1 : m2 (b + 2) (48 + 2 * k) = (aK (A 0 1023) (A 2)) (48 + 2 * k + 0) := by have q := ym2.2 (48 + 2 * k + 0) (by omega) (by omega); rw [← q]; congr 1; omega
                                  have hks2 := ym2.2 (48 + 2 * k + 1) (by omega) (by omega)
                                  refine zT.aload_n 0 dX13_hotel_312 rfl rfl ?_
                                  refine zT.getF dX13_hotel_313 fX13_107 rfl (zMod.k hb) (j := 51) (by decide) rfl (zMod.f1051 hb) ?_
                                  refine zT.sipush dX13_hotel_316 ?_
                                  refine zT.iload 7 dX13_hotel_319 rfl ?_
                                  refine zT.imul dX13_hotel_321 ?_
                                  refine zT.iload 6 dX13_hotel_322 rfl ?_
                                  refine zT.iadd dX13_hotel_324 ?_
                                  refine zT.iald dX13_hotel_325 (zMod.a1051 hb) (by first | assumption | exact zq_i _ | exact zand_i _ _ | exact zor_i _ _ | exact zN _ | omega) (by rw [(zMod.n1051 hb)]; first | assumption | exact zq_i _ | exact zand_i _ _ | exact zor_i _ _ | exact zN _ | omega) (fun z325 => ?_)
                                  refine zT.aload_n 0 dX13_hotel_326 rfl rfl ?_
                                  refine zT.getF dX13_hotel_327 fX13_107 rfl (zMod.k hb) (j := 51) (by decide) rfl (zMod.f1051 hb) ?_
                                  refine zT.sipush dX13_hotel_330 ?_
                                  refine zT.iload 7 dX13_hotel_333 rfl ?_
                                  refine zT.iconst dX13_hotel_335 ?_
                                  refine zT.iadd dX13_hotel_336 ?_
                                  refine zT.imul dX13_hotel_337 ?_
                                  refine zT.iload 6 dX13_hotel_338 rfl ?_
                                  refine zT.iadd dX13_hotel_340 ?_
                                  refine zT.iald dX13_hotel_341 (zMod.a1051 hb) (by first | assumption | exact zq_i _ | exact zand_i _ _ | exact zor_i _ _ | exact zN _ | omega) (by rw [(zMod.n1051 hb)]; first | assumption | exact zq_i _ | exact zand_i _ _ | exact zor_i _ _ | exact zN _ | omega) (fun z341 => ?_)
                                  refine zT.ic_eq (tgt := 397) dX13_hotel_342 (by decide) (by first | assumption | exact zq_i _ | exact zand_i _ _ | exact zor_i _ _ | exact zN _ | omega) (by first | assumption | exact zq_i _ | exact zand_i _ _ | exact zor_i _ _ | exact zN _ | omega) (fun c342 => ?_) (fun c342 => ?_)
                                  · have heq : hTb 999999 (aK (A 0 1023) (A 2)) NS (NS - 1 - k).toNat l2 = hTb 999999 (aK (A 0 1023) (A 2)) NS (NS - k).toNat l2 := by rw [← htu, ← htc]; omega
                                    refine zT.iinc 7 dX13_hotel_397 rfl (by decide) (zpre1 rfl (zcI _)) ?_
                                    show zT G _ _ _ [zR b, zI n, zI u, zI a, zI need, zI NS, zI l2, zI (k + 1), zU, zU] _ _ _ _ _ _ _
                                    refine zT.goto (tgt := 297) dX13_hotel_400 (by decide) ?_
                                    exact ih297 _ _ _ (by exact hz) (by first | assumption | exact zq_i _ | exact zand_i _ _ | exact zor_i _ _ | exact zN _ | omega) (by first | assumption | exact zq_i _ | exact zand_i _ _ | exact zor_i _ _ | exact zN _ | omega) (by exact ht) (by exact h35) (by
                                        rw [show (k + 1).toNat = k.toNat + 1 by omega]
                                        show _ = (hSt _ _ NS ((k.toNat : Nat) : Int) _).1
                                        rw [show ((k.toNat : Nat) : Int) = k by omega, ← hl, ← hSS, ← hT, hGo_0 heq]) (by
                                        exact fun j j0 j1 => by
                                          by_cases q : j = k
                                          · rw [q, hpk]
                                            unfold hPn
                                            rw [← hl, ← hSS, ← hT, hGo_0 heq]
                                          · exact hp9 j j0 (by omega)) (by omega)
                                  · have hne : hTb 999999 (aK (A 0 1023) (A 2)) NS (NS - 1 - k).toNat l2 ≠ hTb 999999 (aK (A 0 1023) (A 2)) NS (NS - k).toNat l2 := by rw [← htu, ← htc]; exact fun q => by omega
                                    have hl0 : 0 < l2 := by
                                                                          refine Classical.byContradiction fun q => hne ?_
                                                                          rw [show l2 = 0 by omega, hTb_0 (by omega), hTb_0 (by omega)]
                                    obtain ⟨f, rfl⟩ : ∃ g, f = g + 1 := ⟨f - 1, by omega⟩
                                    have hT9 := hT
                                    rw [hGo_1 hne] at hT9
                                    refine zT.aload_n 0 dX13_hotel_345 rfl rfl ?_
                                    refine zT.getF dX13_hotel_346 fX13_110 rfl (zMod.k hb) (j := 52) (by decide) rfl (zMod.f1052 hb) ?_
                                    refine zT.iload 7 dX13_hotel_349 rfl ?_
                                    refine zT.dup2 dX13_hotel_351 (zcI _) (zcR _) ?_
                                    refine zT.iald dX13_hotel_352 (zMod.a1052 hb) (by first | assumption | exact zq_i _ | exact zand_i _ _ | exact zor_i _ _ | exact zN _ | omega) (by rw [(zMod.n1052 hb)]; first | assumption | exact zq_i _ | exact zand_i _ _ | exact zor_i _ _ | exact zN _ | omega) (fun z352 => ?_)
                                    refine zT.iconst dX13_hotel_353 ?_
                                    refine zT.iadd dX13_hotel_354 ?_
                                    refine zT.iast dX13_hotel_355 (zMod.a1052 hb) (by first | assumption | exact zq_i _ | exact zand_i _ _ | exact zor_i _ _ | exact zN _ | omega) (by rw [(zMod.n1052 hb)]; first | assumption | exact zq_i _ | exact zand_i _ _ | exact zor_i _ _ | exact zN _ | omega) (by first | assumption | exact zq_i _ | exact zand_i _ _ | exact zor_i _ _ | exact zN _ | omega) ?_
                                    obtain ⟨m5, em5⟩ : ∃ z, z = zup mB (b + 32) k ((mB (b + 32) k) + 1) := ⟨_, rfl⟩
                                    rw [← em5]
                                    refine zT.iload 6 dX13_hotel_356 rfl ?_
                                    refine zT.aload_n 0 dX13_hotel_358 rfl rfl ?_
                                    refine zT.getF dX13_hotel_359 fX13_13 rfl (zMod.k hb) (j := 14) (by decide) rfl (zMod.f1014 hb) ?_
                                    refine zT.bipush dX13_hotel_362 ?_
                                    refine zT.iconst dX13_hotel_364 ?_
                                    refine zT.iload 7 dX13_hotel_365 rfl ?_
                                    refine zT.imul dX13_hotel_367 ?_
                                    refine zT.iadd dX13_hotel_368 ?_
                                    refine zT.iald dX13_hotel_369 (zMod.a1014 hb) (by first | assumption | exact zq_i _ | exact zand_i _ _ | exact zor_i _ _ | exact zN _ | omega) (by rw [(zMod.n1014 hb)]; first | assumption | exact zq_i _ | exact zand_i _ _ | exact zor_i _ _ | exact zN _ | omega) (fun z369 => ?_)
                                    have r369 : m5 (b + 2) (48 + (2 * k)) = m2 (b + 2) (48 + (2 * k)) := by rw [em5, zup_ne (by omega), hz _ _ (by omega) (by omega) (by omega)]
                                    rw [r369] at z369 ⊢
                                    rw [hks1]
                                    show zT G _ _ _ _ [zI ((aK (A 0 1023) (A 2)) (48 + 2 * k + 0)), zI l2] _ _ _ _ _ _
                                    refine zT.ic_le (tgt := 391) dX13_hotel_370 (by decide) (by first | assumption | exact zq_i _ | exact zand_i _ _ | exact zor_i _ _ | exact zN _ | omega) (by first | assumption | exact zq_i _ | exact zand_i _ _ | exact zor_i _ _ | exact zN _ | omega) (fun c370 => ?_) (fun c370 => ?_)
                                    · refine zT.iconst dX13_hotel_391 ?_
                                      refine zT.istore 6 dX13_hotel_392 (by decide) (zpre1 rfl (zcI _)) ?_
                                      show zT G _ _ _ [zR b, zI n, zI u, zI a, zI need, zI NS, zI 0, zI k, zU, zU] _ _ _ _ _ _ _
                                      refine zT.goto (tgt := 312) dX13_hotel_394 (by decide) ?_
                                      exact ih312 _ _ (p + 1) f (by rw [em5]; exact hz.up (by omega)) (by exact fun r w r0 r1 w0 w1 => by rw [em5, zup_ne (by omega)]; exact ht r w r0 r1 w0 w1) (by rw [em5, zup_ne (by omega)]; exact h35) (by exact fun j j0 j1 => by rw [em5, zup_ne (by omega)]; exact hp9 j j0 j1) (by rw [em5, zup_at, hpk]) (by omega) (by omega) (by omega) (by first | (rw [show max 0 (l2 - (aK (A 0 1023) (A 2)) (48 + 2 * k + 0)) = l2 - (aK (A 0 1023) (A 2)) (48 + 2 * k + 0) by omega] at hT9; exact hT9) | (rw [show max 0 (l2 - (aK (A 0 1023) (A 2)) (48 + 2 * k + 0)) = 0 by omega] at hT9; exact hT9)) (by omega)
                                    · refine zT.iload 6 dX13_hotel_373 rfl ?_
                                      refine zT.aload_n 0 dX13_hotel_375 rfl rfl ?_
                                      refine zT.getF dX13_hotel_376 fX13_13 rfl (zMod.k hb) (j := 14) (by decide) rfl (zMod.f1014 hb) ?_
                                      refine zT.bipush dX13_hotel_379 ?_
                                      refine zT.iconst dX13_hotel_381 ?_
                                      refine zT.iload 7 dX13_hotel_382 rfl ?_
                                      refine zT.imul dX13_hotel_384 ?_
                                      refine zT.iadd dX13_hotel_385 ?_
                                      refine zT.iald dX13_hotel_386 (zMod.a1014 hb) (by first | assumption | exact zq_i _ | exact zand_i _ _ | exact zor_i _ _ | exact zN _ | omega) (by rw [(zMod.n1014 hb)]; first | assumption | exact zq_i _ | exact zand_i _ _ | exact zor_i _ _ | exact zN _ | omega) (fun z386 => ?_)
                                      have r386 : m5 (b + 2) (48 + (2 * k)) = m2 (b + 2) (48 + (2 * k)) := by rw [em5, zup_ne (by omega), hz _ _ (by omega) (by omega) (by omega)]
                                      rw [r386] at z386 ⊢
                                      rw [hks1]
                                      show zT G _ _ _ _ [zI ((aK (A 0 1023) (A 2)) (48 + 2 * k + 0)), zI l2] _ _ _ _ _ _
                                      refine zT.isub dX13_hotel_387 ?_
                                      refine zT.goto (tgt := 392) dX13_hotel_388 (by decide) ?_
                                      refine zT.istore 6 dX13_hotel_392 (by decide) (zpre1 rfl (zcI _)) ?_
                                      show zT G _ _ _ [zR b, zI n, zI u, zI a, zI need, zI NS, zI (l2 - ((aK (A 0 1023) (A 2)) (48 + 2 * k + 0))), zI k, zU, zU] _ _ _ _ _ _ _
                                      refine zT.goto (tgt := 312) dX13_hotel_394 (by decide) ?_
                                      exact ih312 _ _ (p + 1) f (by rw [em5]; exact hz.up (by omega)) (by exact fun r w r0 r1 w0 w1 => by rw [em5, zup_ne (by omega)]; exact ht r w r0 r1 w0 w1) (by rw [em5, zup_ne (by omega)]; exact h35) (by exact fun j j0 j1 => by rw [em5, zup_ne (by omega)]; exact hp9 j j0 j1) (by rw [em5, zup_at, hpk]) (by omega) (by omega) (by omega) (by first | (rw [show max 0 (l2 - (aK (A 0 1023) (A 2)) (48 + 2 * k + 0)) = l2 - (aK (A 0 1023) (A 2)) (48 + 2 * k + 0) by omega] at hT9; exact hT9) | (rw [show max 0 (l2 - (aK (A 0 1023) (A 2)) (48 + 2 * k + 0)) = 0 by omega] at hT9; exact hT9)) (by omega)
                              exact L312 _ _ _ 0 201 (by rw [em4]; exact hz.up (by omega)) (by exact fun r w r0 r1 w0 w1 => by rw [em4, zup_ne (by omega)]; exact ht r w r0 r1 w0 w1) (by rw [em4, zup_ne (by omega)]; exact h35) (by exact fun j j0 j1 => by rw [em4, zup_ne (by omega)]; exact hp9 j j0 j1) (by rw [em4, zup_at]) (by omega) (by omega) (by omega) (by exact hSS.symm) (Nat.lt_succ_self _)
                        exact L297 _ _ _ _ (by rw [em3]; exact hz.up (by omega)) (by first | assumption | exact zq_i _ | exact zand_i _ _ | exact zor_i _ _ | exact zN _ | omega) (by first | assumption | exact zq_i _ | exact zand_i _ _ | exact zor_i _ _ | exact zN _ | omega) (by exact fun r w r0 r1 w0 w1 => by rw [em3, zup_ne (by omega)]; exact ht r w (by omega) r1 w0 w1) (by rw [em3, zup_at]) (by rfl) (by exact fun j a b => by omega) (Nat.lt_succ_self _)
                      · refine zT.iconst dX13_hotel_126 ?_
                        refine zT.istore 7 dX13_hotel_127 (by decide) (zpre1 rfl (zcI _)) ?_
                        show zT G _ _ _ [zR b, zI n, zI u, zI a, zI need, zI NS, zI k, zI 0, zU, zU] _ _ _ _ _ _ _
                        have L129 : ∀ (N : Nat) (mB : zMm) (v : Int), (zHm b m2 mB) → (0 ≤ v) → (v ≤ need + 1) → (∀ r w, k < r → r ≤ NS → 0 ≤ w → w ≤ need → mB (b + 31) (201 * r + w) = hTb 999999 (aK (A 0 1023) (A 2)) NS (NS - r).toNat w) → (∀ w, 0 ≤ w → w < v → mB (b + 31) (201 * k + w) = hTb 999999 (aK (A 0 1023) (A 2)) NS (NS - k).toNat w) → ((need + 1 - v).toNat) < N → zT G mX13_hotel 3 129 [zR b, zI n, zI u, zI a, zI need, zI NS, zI k, zI v, zU, zU] [] S mB 0 0 Q9 zNX := by
                          intro N
                          induction N with
                          | zero => intro mB v hz v0 v1 ht hu9 hN; exact absurd hN (Nat.not_lt_zero _)
                          | succ N ih129 =>
                            intro mB v hz v0 v1 ht hu9 hN
                            have hkk := hk.2.2.2 k (by omega) (by omega)
                            have hk1k := hkk.2.2.2.2 (by omega)
                            have hks1 : m2 (b + 2) (48 + 2 * k) = (aK (A 0 1023) (A 2)) (48 + 2 * k + 0) := by have q := ym2.2 (48 + 2 * k + 0) (by omega) (by omega); rw [← q]; congr 1; omega
                            have hks2 := ym2.2 (48 + 2 * k + 1) (by omega) (by omega)
                            obtain ⟨j9, hj9⟩ : ∃ j : Nat, (NS - k).toNat = j + 1 := ⟨(NS - 1 - k).toNat, by omega⟩
                            have ej9 : NS - 1 - (j9 : Int) = k := by omega
                            have ej8 : (NS - (k + 1)).toNat = j9 := by omega
                            have hup := ht (k + 1) v (by omega) (by omega) v0
                            refine zT.iload 7 dX13_hotel_129 rfl ?_
                            refine zT.iload 4 dX13_hotel_131 rfl ?_
                            refine zT.ic_gt (tgt := 278) dX13_hotel_133 (by decide) (by first | assumption | exact zq_i _ | exact zand_i _ _ | exact zor_i _ _ | exact zN _ | omega) (by first | assumption | exact zq_i _ | exact zand_i _ _ | exact zor_i _ _ | exact zN _ | omega) (fun c133 => ?_) (fun c133 => ?_)
                            · refine zT.iinc 6 dX13_hotel_278 rfl (by decide) (zpre1 rfl (zcI _)) ?_
                              show zT G _ _ _ [zR b, zI n, zI u, zI a, zI need, zI NS, zI (k + (-1)), zI v, zU, zU] _ _ _ _ _ _ _
                              refine zT.goto (tgt := 121) dX13_hotel_281 (by decide) ?_
                              refine zT.loc (V' := [zR b, zI n, zI u, zI a, zI need, zI NS, zI (k + (-1)), zU, zU, zU]) ?_ ⟨Or.inr rfl, Or.inr rfl, Or.inr rfl, Or.inr rfl, Or.inr rfl, Or.inr rfl, Or.inr rfl, Or.inl rfl, Or.inr rfl, Or.inr rfl, trivial⟩
                              exact ih121 _ _ (by exact hz) (by omega) (by omega) (by
                                  exact fun r w r0 r1 w0 w1 => by
                                    by_cases q : r = k
                                    · rw [q]; exact hu9 w w0 (by omega)
                                    · exact ht r w (by omega) r1 w0 w1) (by omega)
                            · refine zT.iload 7 dX13_hotel_136 rfl ?_
                              refine zT.aload_n 0 dX13_hotel_138 rfl rfl ?_
                              refine zT.getF dX13_hotel_139 fX13_13 rfl (zMod.k hb) (j := 14) (by decide) rfl (zMod.f1014 hb) ?_
                              refine zT.bipush dX13_hotel_142 ?_
                              refine zT.iconst dX13_hotel_144 ?_
                              refine zT.iload 6 dX13_hotel_145 rfl ?_
                              refine zT.imul dX13_hotel_147 ?_
                              refine zT.iadd dX13_hotel_148 ?_
                              refine zT.iald dX13_hotel_149 (zMod.a1014 hb) (by first | assumption | exact zq_i _ | exact zand_i _ _ | exact zor_i _ _ | exact zN _ | omega) (by rw [(zMod.n1014 hb)]; first | assumption | exact zq_i _ | exact zand_i _ _ | exact zor_i _ _ | exact zN _ | omega) (fun z149 => ?_)
                              have r149 : mB (b + 2) (48 + (2 * k)) = m2 (b + 2) (48 + (2 * k)) := by rw [hz _ _ (by omega) (by omega) (by omega)]
                              rw [r149] at z149 ⊢
                              rw [hks1]
                              show zT G _ _ _ _ [zI ((aK (A 0 1023) (A 2)) (48 + 2 * k + 0)), zI v] _ _ _ _ _ _
                              refine zT.ic_le (tgt := 171) dX13_hotel_150 (by decide) (by first | assumption | exact zq_i _ | exact zand_i _ _ | exact zor_i _ _ | exact zN _ | omega) (by first | assumption | exact zq_i _ | exact zand_i _ _ | exact zor_i _ _ | exact zN _ | omega) (fun c150 => ?_) (fun c150 => ?_)
                              · refine zT.iconst dX13_hotel_171 ?_
                                refine zT.istore 8 dX13_hotel_172 (by decide) (zpre1 rfl (zcI _)) ?_
                                show zT G _ _ _ [zR b, zI n, zI u, zI a, zI need, zI NS, zI k, zI v, zI 0, zU] _ _ _ _ _ _ _
                                refine zT.iload 7 dX13_hotel_174 rfl ?_
                                refine zT.if_ne (tgt := 185) dX13_hotel_176 (by decide) (by first | assumption | exact zq_i _ | exact zand_i _ _ | exact zor_i _ _ | exact zN _ | omega) (fun c176 => ?_) (fun c176 => ?_)
                                · refine zT.aload_n 0 dX13_hotel_185 rfl rfl ?_
                                  refine zT.getF dX13_hotel_186 fX13_107 rfl (zMod.k hb) (j := 51) (by decide) rfl (zMod.f1051 hb) ?_
                                  refine zT.sipush dX13_hotel_189 ?_
                                  refine zT.iload 6 dX13_hotel_192 rfl ?_
                                  refine zT.imul dX13_hotel_194 ?_
                                  refine zT.iload 8 dX13_hotel_195 rfl ?_
                                  refine zT.iadd dX13_hotel_197 ?_
                                  refine zT.iald dX13_hotel_198 (zMod.a1051 hb) (by first | assumption | exact zq_i _ | exact zand_i _ _ | exact zor_i _ _ | exact zN _ | omega) (by rw [(zMod.n1051 hb)]; first | assumption | exact zq_i _ | exact zand_i _ _ | exact zor_i _ _ | exact zN _ | omega) (fun z198 => ?_)
                                  have hw1 := hu9 (0) (by omega) (by omega)
                                  have hw2 := hTb_F (F := 999999) (G := 999999) hk hNS (by omega) (by omega) (NS - k).toNat (by omega) (by omega) (0) (by omega) (by omega)
                                  rw [← hw1] at hw2
                                  refine zT.aload_n 0 dX13_hotel_199 rfl rfl ?_
                                  refine zT.getF dX13_hotel_200 fX13_13 rfl (zMod.k hb) (j := 14) (by decide) rfl (zMod.f1014 hb) ?_
                                  refine zT.bipush dX13_hotel_203 ?_
                                  refine zT.iconst dX13_hotel_205 ?_
                                  refine zT.iload 6 dX13_hotel_206 rfl ?_
                                  refine zT.imul dX13_hotel_208 ?_
                                  refine zT.iadd dX13_hotel_209 ?_
                                  refine zT.iconst dX13_hotel_210 ?_
                                  refine zT.iadd dX13_hotel_211 ?_
                                  refine zT.iald dX13_hotel_212 (zMod.a1014 hb) (by first | assumption | exact zq_i _ | exact zand_i _ _ | exact zor_i _ _ | exact zN _ | omega) (by rw [(zMod.n1014 hb)]; first | assumption | exact zq_i _ | exact zand_i _ _ | exact zor_i _ _ | exact zN _ | omega) (fun z212 => ?_)
                                  have r212 : mB (b + 2) ((48 + (2 * k)) + 1) = m2 (b + 2) ((48 + (2 * k)) + 1) := by rw [hz _ _ (by omega) (by omega) (by omega)]
                                  rw [r212] at z212 ⊢
                                  rw [hks2]
                                  show zT G _ _ _ _ [zI ((aK (A 0 1023) (A 2)) (48 + 2 * k + 1)), zI (mB (b + 31) ((201 * k) + 0))] _ _ _ _ _ _
                                  refine zT.iadd dX13_hotel_213 ?_
                                  refine zT.istore 9 dX13_hotel_214 (by decide) (zpre1 rfl (zcI _)) ?_
                                  show zT G _ _ _ [zR b, zI n, zI u, zI a, zI need, zI NS, zI k, zI v, zI 0, zI ((mB (b + 31) ((201 * k) + 0)) + ((aK (A 0 1023) (A 2)) (48 + 2 * k + 1)))] _ _ _ _ _ _ _
                                  refine zT.aload_n 0 dX13_hotel_216 rfl rfl ?_
                                  refine zT.getF dX13_hotel_217 fX13_107 rfl (zMod.k hb) (j := 51) (by decide) rfl (zMod.f1051 hb) ?_
                                  refine zT.sipush dX13_hotel_220 ?_
                                  refine zT.iload 6 dX13_hotel_223 rfl ?_
                                  refine zT.imul dX13_hotel_225 ?_
                                  refine zT.iload 7 dX13_hotel_226 rfl ?_
                                  refine zT.iadd dX13_hotel_228 ?_
                                  refine zT.iload 9 dX13_hotel_229 rfl ?_
                                  refine zT.aload_n 0 dX13_hotel_231 rfl rfl ?_
                                  refine zT.getF dX13_hotel_232 fX13_107 rfl (zMod.k hb) (j := 51) (by decide) rfl (zMod.f1051 hb) ?_
                                  refine zT.sipush dX13_hotel_235 ?_
                                  refine zT.iload 6 dX13_hotel_238 rfl ?_
                                  refine zT.iconst dX13_hotel_240 ?_
                                  refine zT.iadd dX13_hotel_241 ?_
                                  refine zT.imul dX13_hotel_242 ?_
                                  refine zT.iload 7 dX13_hotel_243 rfl ?_
                                  refine zT.iadd dX13_hotel_245 ?_
                                  refine zT.iald dX13_hotel_246 (zMod.a1051 hb) (by first | assumption | exact zq_i _ | exact zand_i _ _ | exact zor_i _ _ | exact zN _ | omega) (by rw [(zMod.n1051 hb)]; first | assumption | exact zq_i _ | exact zand_i _ _ | exact zor_i _ _ | exact zN _ | omega) (fun z246 => ?_)
                                  refine zT.ic_ge (tgt := 255) dX13_hotel_247 (by decide) (by first | assumption | exact zq_i _ | exact zand_i _ _ | exact zor_i _ _ | exact zN _ | omega) (by first | assumption | exact zq_i _ | exact zand_i _ _ | exact zor_i _ _ | exact zN _ | omega) (fun c247 => ?_) (fun c247 => ?_)
                                  · refine zT.aload_n 0 dX13_hotel_255 rfl rfl ?_
                                    refine zT.getF dX13_hotel_256 fX13_107 rfl (zMod.k hb) (j := 51) (by decide) rfl (zMod.f1051 hb) ?_
                                    refine zT.sipush dX13_hotel_259 ?_
                                    refine zT.iload 6 dX13_hotel_262 rfl ?_
                                    refine zT.iconst dX13_hotel_264 ?_
                                    refine zT.iadd dX13_hotel_265 ?_
                                    refine zT.imul dX13_hotel_266 ?_
                                    refine zT.iload 7 dX13_hotel_267 rfl ?_
                                    refine zT.iadd dX13_hotel_269 ?_
                                    refine zT.iald dX13_hotel_270 (zMod.a1051 hb) (by first | assumption | exact zq_i _ | exact zand_i _ _ | exact zor_i _ _ | exact zN _ | omega) (by rw [(zMod.n1051 hb)]; first | assumption | exact zq_i _ | exact zand_i _ _ | exact zor_i _ _ | exact zN _ | omega) (fun z270 => ?_)
                                    have hst : mB (b + 31) ((201 * (k + 1)) + v) = hTb 999999 (aK (A 0 1023) (A 2)) NS (NS - k).toNat v := by
                                      rw [hj9]
                                      have h0 := hup (by omega)
                                      rw [ej8] at h0
                                      by_cases q : v = 0
                                      · first
                                          | (exfalso; omega)
                                          | (subst q
                                             rw [hTb_z, ← h0]
                                             omega)
                                      · first
                                          | (exfalso; omega)
                                          | (have h1 := hu9 (max 0 (v - (aK (A 0 1023) (A 2)) (48 + 2 * k + 0))) (by omega) (by omega)
                                             rw [hj9] at h1
                                             rw [hTb_s (by rw [ej9]; omega) (by omega), ej9, ← h0, ← h1]
                                             first
                                               | (rw [show max 0 (v - (aK (A 0 1023) (A 2)) (48 + 2 * k + 0)) = v - (aK (A 0 1023) (A 2)) (48 + 2 * k + 0) by omega] at *; omega)
                                               | (rw [show max 0 (v - (aK (A 0 1023) (A 2)) (48 + 2 * k + 0)) = 0 by omega] at *; omega))
                                    refine zT.iast dX13_hotel_271 (zMod.a1051 hb) (by first | assumption | exact zq_i _ | exact zand_i _ _ | exact zor_i _ _ | exact zN _ | omega) (by rw [(zMod.n1051 hb)]; first | assumption | exact zq_i _ | exact zand_i _ _ | exact zor_i _ _ | exact zN _ | omega) (by first | assumption | exact zq_i _ | exact zand_i _ _ | exact zor_i _ _ | exact zN _ | omega) ?_
                                    obtain ⟨m6, em6⟩ : ∃ z, z = zup mB (b + 31) ((201 * k) + v) (mB (b + 31) ((201 * (k + 1)) + v)) := ⟨_, rfl⟩
                                    rw [← em6]
                                    refine zT.iinc 7 dX13_hotel_272 rfl (by decide) (zpre1 rfl (zcI _)) ?_
                                    show zT G _ _ _ [zR b, zI n, zI u, zI a, zI need, zI NS, zI k, zI (v + 1), zI 0, zI ((mB (b + 31) ((201 * k) + 0)) + ((aK (A 0 1023) (A 2)) (48 + 2 * k + 1)))] _ _ _ _ _ _ _
                                    refine zT.goto (tgt := 129) dX13_hotel_275 (by decide) ?_
                                    refine zT.loc (V' := [zR b, zI n, zI u, zI a, zI need, zI NS, zI k, zI (v + 1), zU, zU]) ?_ ⟨Or.inr rfl, Or.inr rfl, Or.inr rfl, Or.inr rfl, Or.inr rfl, Or.inr rfl, Or.inr rfl, Or.inr rfl, Or.inl rfl, Or.inl rfl, trivial⟩
                                    exact ih129 _ _ (by rw [em6]; exact hz.up (by omega)) (by omega) (by omega) (by exact fun r w r0 r1 w0 w1 => by rw [em6, zup_ne (by omega)]; exact ht r w r0 r1 w0 w1) (by
                                        exact fun w w0 w1 => by
                                          by_cases q : w = v
                                          · rw [q, em6, zup_at]
                                            exact hst
                                          · rw [em6, zup_ne (by omega)]
                                            exact hu9 w w0 (by omega)) (by omega)
                                  · refine zT.iload 9 dX13_hotel_250 rfl ?_
                                    refine zT.goto (tgt := 271) dX13_hotel_252 (by decide) ?_
                                    have hst : (mB (b + 31) ((201 * k) + 0)) + ((aK (A 0 1023) (A 2)) (48 + 2 * k + 1)) = hTb 999999 (aK (A 0 1023) (A 2)) NS (NS - k).toNat v := by
                                      rw [hj9]
                                      have h0 := hup (by omega)
                                      rw [ej8] at h0
                                      by_cases q : v = 0
                                      · first
                                          | (exfalso; omega)
                                          | (subst q
                                             rw [hTb_z, ← h0]
                                             omega)
                                      · first
                                          | (exfalso; omega)
                                          | (have h1 := hu9 (max 0 (v - (aK (A 0 1023) (A 2)) (48 + 2 * k + 0))) (by omega) (by omega)
                                             rw [hj9] at h1
                                             rw [hTb_s (by rw [ej9]; omega) (by omega), ej9, ← h0, ← h1]
                                             first
                                               | (rw [show max 0 (v - (aK (A 0 1023) (A 2)) (48 + 2 * k + 0)) = v - (aK (A 0 1023) (A 2)) (48 + 2 * k + 0) by omega] at *; omega)
                                               | (rw [show max 0 (v - (aK (A 0 1023) (A 2)) (48 + 2 * k + 0)) = 0 by omega] at *; omega))
                                    refine zT.iast dX13_hotel_271 (zMod.a1051 hb) (by first | assumption | exact zq_i _ | exact zand_i _ _ | exact zor_i _ _ | exact zN _ | omega) (by rw [(zMod.n1051 hb)]; first | assumption | exact zq_i _ | exact zand_i _ _ | exact zor_i _ _ | exact zN _ | omega) (by first | assumption | exact zq_i _ | exact zand_i _ _ | exact zor_i _ _ | exact zN _ | omega) ?_
                                    obtain ⟨m7, em7⟩ : ∃ z, z = zup mB (b + 31) ((201 * k) + v) ((mB (b + 31) ((201 * k) + 0)) + ((aK (A 0 1023) (A 2)) (48 + 2 * k + 1))) := ⟨_, rfl⟩
                                    rw [← em7]
                                    refine zT.iinc 7 dX13_hotel_272 rfl (by decide) (zpre1 rfl (zcI _)) ?_
                                    show zT G _ _ _ [zR b, zI n, zI u, zI a, zI need, zI NS, zI k, zI (v + 1), zI 0, zI ((mB (b + 31) ((201 * k) + 0)) + ((aK (A 0 1023) (A 2)) (48 + 2 * k + 1)))] _ _ _ _ _ _ _
                                    refine zT.goto (tgt := 129) dX13_hotel_275 (by decide) ?_
                                    refine zT.loc (V' := [zR b, zI n, zI u, zI a, zI need, zI NS, zI k, zI (v + 1), zU, zU]) ?_ ⟨Or.inr rfl, Or.inr rfl, Or.inr rfl, Or.inr rfl, Or.inr rfl, Or.inr rfl, Or.inr rfl, Or.inr rfl, Or.inl rfl, Or.inl rfl, trivial⟩
                                    exact ih129 _ _ (by rw [em7]; exact hz.up (by omega)) (by omega) (by omega) (by exact fun r w r0 r1 w0 w1 => by rw [em7, zup_ne (by omega)]; exact ht r w r0 r1 w0 w1) (by
                                        exact fun w w0 w1 => by
                                          by_cases q : w = v
                                          · rw [q, em7, zup_at]
                                            exact hst
                                          · rw [em7, zup_ne (by omega)]
                                            exact hu9 w w0 (by omega)) (by omega)
                                · refine zT.ldcw 999999 q2033 (by decide +kernel) dX13_hotel_179 ?_
                                  refine zT.goto (tgt := 214) dX13_hotel_182 (by decide) ?_
                                  refine zT.istore 9 dX13_hotel_214 (by decide) (zpre1 rfl (zcI _)) ?_
                                  show zT G _ _ _ [zR b, zI n, zI u, zI a, zI need, zI NS, zI k, zI v, zI 0, zI 999999] _ _ _ _ _ _ _
                                  refine zT.aload_n 0 dX13_hotel_216 rfl rfl ?_
                                  refine zT.getF dX13_hotel_217 fX13_107 rfl (zMod.k hb) (j := 51) (by decide) rfl (zMod.f1051 hb) ?_
                                  refine zT.sipush dX13_hotel_220 ?_
                                  refine zT.iload 6 dX13_hotel_223 rfl ?_
                                  refine zT.imul dX13_hotel_225 ?_
                                  refine zT.iload 7 dX13_hotel_226 rfl ?_
                                  refine zT.iadd dX13_hotel_228 ?_
                                  refine zT.iload 9 dX13_hotel_229 rfl ?_
                                  refine zT.aload_n 0 dX13_hotel_231 rfl rfl ?_
                                  refine zT.getF dX13_hotel_232 fX13_107 rfl (zMod.k hb) (j := 51) (by decide) rfl (zMod.f1051 hb) ?_
                                  refine zT.sipush dX13_hotel_235 ?_
                                  refine zT.iload 6 dX13_hotel_238 rfl ?_
                                  refine zT.iconst dX13_hotel_240 ?_
                                  refine zT.iadd dX13_hotel_241 ?_
                                  refine zT.imul dX13_hotel_242 ?_
                                  refine zT.iload 7 dX13_hotel_243 rfl ?_
                                  refine zT.iadd dX13_hotel_245 ?_
                                  refine zT.iald dX13_hotel_246 (zMod.a1051 hb) (by first | assumption | exact zq_i _ | exact zand_i _ _ | exact zor_i _ _ | exact zN _ | omega) (by rw [(zMod.n1051 hb)]; first | assumption | exact zq_i _ | exact zand_i _ _ | exact zor_i _ _ | exact zN _ | omega) (fun z246 => ?_)
                                  refine zT.ic_ge (tgt := 255) dX13_hotel_247 (by decide) (by first | assumption | exact zq_i _ | exact zand_i _ _ | exact zor_i _ _ | exact zN _ | omega) (by first | assumption | exact zq_i _ | exact zand_i _ _ | exact zor_i _ _ | exact zN _ | omega) (fun c247 => ?_) (fun c247 => ?_)
                                  · refine zT.aload_n 0 dX13_hotel_255 rfl rfl ?_
                                    refine zT.getF dX13_hotel_256 fX13_107 rfl (zMod.k hb) (j := 51) (by decide) rfl (zMod.f1051 hb) ?_
                                    refine zT.sipush dX13_hotel_259 ?_
                                    refine zT.iload 6 dX13_hotel_262 rfl ?_
                                    refine zT.iconst dX13_hotel_264 ?_
                                    refine zT.iadd dX13_hotel_265 ?_
                                    refine zT.imul dX13_hotel_266 ?_
                                    refine zT.iload 7 dX13_hotel_267 rfl ?_
                                    refine zT.iadd dX13_hotel_269 ?_
                                    refine zT.iald dX13_hotel_270 (zMod.a1051 hb) (by first | assumption | exact zq_i _ | exact zand_i _ _ | exact zor_i _ _ | exact zN _ | omega) (by rw [(zMod.n1051 hb)]; first | assumption | exact zq_i _ | exact zand_i _ _ | exact zor_i _ _ | exact zN _ | omega) (fun z270 => ?_)
                                    have hst : mB (b + 31) ((201 * (k + 1)) + v) = hTb 999999 (aK (A 0 1023) (A 2)) NS (NS - k).toNat v := by
                                      rw [hj9]
                                      have h0 := hup (by omega)
                                      rw [ej8] at h0
                                      by_cases q : v = 0
                                      · first
                                          | (exfalso; omega)
                                          | (subst q
                                             rw [hTb_z, ← h0]
                                             omega)
                                      · first
                                          | (exfalso; omega)
                                          | (have h1 := hu9 (max 0 (v - (aK (A 0 1023) (A 2)) (48 + 2 * k + 0))) (by omega) (by omega)
                                             rw [hj9] at h1
                                             rw [hTb_s (by rw [ej9]; omega) (by omega), ej9, ← h0, ← h1]
                                             first
                                               | (rw [show max 0 (v - (aK (A 0 1023) (A 2)) (48 + 2 * k + 0)) = v - (aK (A 0 1023) (A 2)) (48 + 2 * k + 0) by omega] at *; omega)
                                               | (rw [show max 0 (v - (aK (A 0 1023) (A 2)) (48 + 2 * k + 0)) = 0 by omega] at *; omega))
                                    refine zT.iast dX13_hotel_271 (zMod.a1051 hb) (by first | assumption | exact zq_i _ | exact zand_i _ _ | exact zor_i _ _ | exact zN _ | omega) (by rw [(zMod.n1051 hb)]; first | assumption | exact zq_i _ | exact zand_i _ _ | exact zor_i _ _ | exact zN _ | omega) (by first | assumption | exact zq_i _ | exact zand_i _ _ | exact zor_i _ _ | exact zN _ | omega) ?_
                                    obtain ⟨m8, em8⟩ : ∃ z, z = zup mB (b + 31) ((201 * k) + v) (mB (b + 31) ((201 * (k + 1)) + v)) := ⟨_, rfl⟩
                                    rw [← em8]
                                    refine zT.iinc 7 dX13_hotel_272 rfl (by decide) (zpre1 rfl (zcI _)) ?_
                                    show zT G _ _ _ [zR b, zI n, zI u, zI a, zI need, zI NS, zI k, zI (v + 1), zI 0, zI 999999] _ _ _ _ _ _ _
                                    refine zT.goto (tgt := 129) dX13_hotel_275 (by decide) ?_
                                    refine zT.loc (V' := [zR b, zI n, zI u, zI a, zI need, zI NS, zI k, zI (v + 1), zU, zU]) ?_ ⟨Or.inr rfl, Or.inr rfl, Or.inr rfl, Or.inr rfl, Or.inr rfl, Or.inr rfl, Or.inr rfl, Or.inr rfl, Or.inl rfl, Or.inl rfl, trivial⟩
                                    exact ih129 _ _ (by rw [em8]; exact hz.up (by omega)) (by omega) (by omega) (by exact fun r w r0 r1 w0 w1 => by rw [em8, zup_ne (by omega)]; exact ht r w r0 r1 w0 w1) (by
                                        exact fun w w0 w1 => by
                                          by_cases q : w = v
                                          · rw [q, em8, zup_at]
                                            exact hst
                                          · rw [em8, zup_ne (by omega)]
                                            exact hu9 w w0 (by omega)) (by omega)
                                  · refine zT.iload 9 dX13_hotel_250 rfl ?_
                                    refine zT.goto (tgt := 271) dX13_hotel_252 (by decide) ?_
                                    have hst : 999999 = hTb 999999 (aK (A 0 1023) (A 2)) NS (NS - k).toNat v := by
                                      rw [hj9]
                                      have h0 := hup (by omega)
                                      rw [ej8] at h0
                                      by_cases q : v = 0
                                      · first
                                          | (exfalso; omega)
                                          | (subst q
                                             rw [hTb_z, ← h0]
                                             omega)
                                      · first
                                          | (exfalso; omega)
                                          | (have h1 := hu9 (max 0 (v - (aK (A 0 1023) (A 2)) (48 + 2 * k + 0))) (by omega) (by omega)
                                             rw [hj9] at h1
                                             rw [hTb_s (by rw [ej9]; omega) (by omega), ej9, ← h0, ← h1]
                                             first
                                               | (rw [show max 0 (v - (aK (A 0 1023) (A 2)) (48 + 2 * k + 0)) = v - (aK (A 0 1023) (A 2)) (48 + 2 * k + 0) by omega] at *; omega)
                                               | (rw [show max 0 (v - (aK (A 0 1023) (A 2)) (48 + 2 * k + 0)) = 0 by omega] at *; omega))
                                    refine zT.iast dX13_hotel_271 (zMod.a1051 hb) (by first | assumption | exact zq_i _ | exact zand_i _ _ | exact zor_i _ _ | exact zN _ | omega) (by rw [(zMod.n1051 hb)]; first | assumption | exact zq_i _ | exact zand_i _ _ | exact zor_i _ _ | exact zN _ | omega) (by first | assumption | exact zq_i _ | exact zand_i _ _ | exact zor_i _ _ | exact zN _ | omega) ?_
                                    obtain ⟨m9, em9⟩ : ∃ z, z = zup mB (b + 31) ((201 * k) + v) 999999 := ⟨_, rfl⟩
                                    rw [← em9]
                                    refine zT.iinc 7 dX13_hotel_272 rfl (by decide) (zpre1 rfl (zcI _)) ?_
                                    show zT G _ _ _ [zR b, zI n, zI u, zI a, zI need, zI NS, zI k, zI (v + 1), zI 0, zI 999999] _ _ _ _ _ _ _
                                    refine zT.goto (tgt := 129) dX13_hotel_275 (by decide) ?_
                                    refine zT.loc (V' := [zR b, zI n, zI u, zI a, zI need, zI NS, zI k, zI (v + 1), zU, zU]) ?_ ⟨Or.inr rfl, Or.inr rfl, Or.inr rfl, Or.inr rfl, Or.inr rfl, Or.inr rfl, Or.inr rfl, Or.inr rfl, Or.inl rfl, Or.inl rfl, trivial⟩
                                    exact ih129 _ _ (by rw [em9]; exact hz.up (by omega)) (by omega) (by omega) (by exact fun r w r0 r1 w0 w1 => by rw [em9, zup_ne (by omega)]; exact ht r w r0 r1 w0 w1) (by
                                        exact fun w w0 w1 => by
                                          by_cases q : w = v
                                          · rw [q, em9, zup_at]
                                            exact hst
                                          · rw [em9, zup_ne (by omega)]
                                            exact hu9 w w0 (by omega)) (by omega)
                              · refine zT.iload 7 dX13_hotel_153 rfl ?_
                                refine zT.aload_n 0 dX13_hotel_155 rfl rfl ?_
                                refine zT.getF dX13_hotel_156 fX13_13 rfl (zMod.k hb) (j := 14) (by decide) rfl (zMod.f1014 hb) ?_
                                refine zT.bipush dX13_hotel_159 ?_
                                refine zT.iconst dX13_hotel_161 ?_
                                refine zT.iload 6 dX13_hotel_162 rfl ?_
                                refine zT.imul dX13_hotel_164 ?_
                                refine zT.iadd dX13_hotel_165 ?_
                                refine zT.iald dX13_hotel_166 (zMod.a1014 hb) (by first | assumption | exact zq_i _ | exact zand_i _ _ | exact zor_i _ _ | exact zN _ | omega) (by rw [(zMod.n1014 hb)]; first | assumption | exact zq_i _ | exact zand_i _ _ | exact zor_i _ _ | exact zN _ | omega) (fun z166 => ?_)
                                have r166 : mB (b + 2) (48 + (2 * k)) = m2 (b + 2) (48 + (2 * k)) := by rw [hz _ _ (by omega) (by omega) (by omega)]
                                rw [r166] at z166 ⊢
                                rw [hks1]
                                show zT G _ _ _ _ [zI ((aK (A 0 1023) (A 2)) (48 + 2 * k + 0)), zI v] _ _ _ _ _ _
                                refine zT.isub dX13_hotel_167 ?_
                                refine zT.goto (tgt := 172) dX13_hotel_168 (by decide) ?_
                                refine zT.istore 8 dX13_hotel_172 (by decide) (zpre1 rfl (zcI _)) ?_
                                show zT G _ _ _ [zR b, zI n, zI u, zI a, zI need, zI NS, zI k, zI v, zI (v - ((aK (A 0 1023) (A 2)) (48 + 2 * k + 0))), zU] _ _ _ _ _ _ _
                                refine zT.iload 7 dX13_hotel_174 rfl ?_
                                refine zT.if_ne (tgt := 185) dX13_hotel_176 (by decide) (by first | assumption | exact zq_i _ | exact zand_i _ _ | exact zor_i _ _ | exact zN _ | omega) (fun c176 => ?_) (fun c176 => ?_)
                                · refine zT.aload_n 0 dX13_hotel_185 rfl rfl ?_
                                  refine zT.getF dX13_hotel_186 fX13_107 rfl (zMod.k hb) (j := 51) (by decide) rfl (zMod.f1051 hb) ?_
                                  refine zT.sipush dX13_hotel_189 ?_
                                  refine zT.iload 6 dX13_hotel_192 rfl ?_
                                  refine zT.imul dX13_hotel_194 ?_
                                  refine zT.iload 8 dX13_hotel_195 rfl ?_
                                  refine zT.iadd dX13_hotel_197 ?_
                                  refine zT.iald dX13_hotel_198 (zMod.a1051 hb) (by first | assumption | exact zq_i _ | exact zand_i _ _ | exact zor_i _ _ | exact zN _ | omega) (by rw [(zMod.n1051 hb)]; first | assumption | exact zq_i _ | exact zand_i _ _ | exact zor_i _ _ | exact zN _ | omega) (fun z198 => ?_)
                                  have hw1 := hu9 (v - ((aK (A 0 1023) (A 2)) (48 + 2 * k + 0))) (by omega) (by omega)
                                  have hw2 := hTb_F (F := 999999) (G := 999999) hk hNS (by omega) (by omega) (NS - k).toNat (by omega) (by omega) (v - ((aK (A 0 1023) (A 2)) (48 + 2 * k + 0))) (by omega) (by omega)
                                  rw [← hw1] at hw2
                                  refine zT.aload_n 0 dX13_hotel_199 rfl rfl ?_
                                  refine zT.getF dX13_hotel_200 fX13_13 rfl (zMod.k hb) (j := 14) (by decide) rfl (zMod.f1014 hb) ?_
                                  refine zT.bipush dX13_hotel_203 ?_
                                  refine zT.iconst dX13_hotel_205 ?_
                                  refine zT.iload 6 dX13_hotel_206 rfl ?_
                                  refine zT.imul dX13_hotel_208 ?_
                                  refine zT.iadd dX13_hotel_209 ?_
                                  refine zT.iconst dX13_hotel_210 ?_
                                  refine zT.iadd dX13_hotel_211 ?_
                                  refine zT.iald dX13_hotel_212 (zMod.a1014 hb) (by first | assumption | exact zq_i _ | exact zand_i _ _ | exact zor_i _ _ | exact zN _ | omega) (by rw [(zMod.n1014 hb)]; first | assumption | exact zq_i _ | exact zand_i _ _ | exact zor_i _ _ | exact zN _ | omega) (fun z212 => ?_)
                                  have r212 : mB (b + 2) ((48 + (2 * k)) + 1) = m2 (b + 2) ((48 + (2 * k)) + 1) := by rw [hz _ _ (by omega) (by omega) (by omega)]
                                  rw [r212] at z212 ⊢
                                  rw [hks2]
                                  show zT G _ _ _ _ [zI ((aK (A 0 1023) (A 2)) (48 + 2 * k + 1)), zI (mB (b + 31) ((201 * k) + (v - ((aK (A 0 1023) (A 2)) (48 + 2 * k + 0)))))] _ _ _ _ _ _
                                  refine zT.iadd dX13_hotel_213 ?_
                                  refine zT.istore 9 dX13_hotel_214 (by decide) (zpre1 rfl (zcI _)) ?_
                                  show zT G _ _ _ [zR b, zI n, zI u, zI a, zI need, zI NS, zI k, zI v, zI (v - ((aK (A 0 1023) (A 2)) (48 + 2 * k + 0))), zI ((mB (b + 31) ((201 * k) + (v - ((aK (A 0 1023) (A 2)) (48 + 2 * k + 0))))) + ((aK (A 0 1023) (A 2)) (48 + 2 * k + 1)))] _ _ _ _ _ _ _
                                  refine zT.aload_n 0 dX13_hotel_216 rfl rfl ?_
                                  refine zT.getF dX13_hotel_217 fX13_107 rfl (zMod.k hb) (j := 51) (by decide) rfl (zMod.f1051 hb) ?_
                                  refine zT.sipush dX13_hotel_220 ?_
                                  refine zT.iload 6 dX13_hotel_223 rfl ?_
                                  refine zT.imul dX13_hotel_225 ?_
                                  refine zT.iload 7 dX13_hotel_226 rfl ?_
                                  refine zT.iadd dX13_hotel_228 ?_
                                  refine zT.iload 9 dX13_hotel_229 rfl ?_
                                  refine zT.aload_n 0 dX13_hotel_231 rfl rfl ?_
                                  refine zT.getF dX13_hotel_232 fX13_107 rfl (zMod.k hb) (j := 51) (by decide) rfl (zMod.f1051 hb) ?_
                                  refine zT.sipush dX13_hotel_235 ?_
                                  refine zT.iload 6 dX13_hotel_238 rfl ?_
                                  refine zT.iconst dX13_hotel_240 ?_
                                  refine zT.iadd dX13_hotel_241 ?_
                                  refine zT.imul dX13_hotel_242 ?_
                                  refine zT.iload 7 dX13_hotel_243 rfl ?_
                                  refine zT.iadd dX13_hotel_245 ?_
                                  refine zT.iald dX13_hotel_246 (zMod.a1051 hb) (by first | assumption | exact zq_i _ | exact zand_i _ _ | exact zor_i _ _ | exact zN _ | omega) (by rw [(zMod.n1051 hb)]; first | assumption | exact zq_i _ | exact zand_i _ _ | exact zor_i _ _ | exact zN _ | omega) (fun z246 => ?_)
                                  refine zT.ic_ge (tgt := 255) dX13_hotel_247 (by decide) (by first | assumption | exact zq_i _ | exact zand_i _ _ | exact zor_i _ _ | exact zN _ | omega) (by first | assumption | exact zq_i _ | exact zand_i _ _ | exact zor_i _ _ | exact zN _ | omega) (fun c247 => ?_) (fun c247 => ?_)
                                  · refine zT.aload_n 0 dX13_hotel_255 rfl rfl ?_
                                    refine zT.getF dX13_hotel_256 fX13_107 rfl (zMod.k hb) (j := 51) (by decide) rfl (zMod.f1051 hb) ?_
                                    refine zT.sipush dX13_hotel_259 ?_
                                    refine zT.iload 6 dX13_hotel_262 rfl ?_
                                    refine zT.iconst dX13_hotel_264 ?_
                                    refine zT.iadd dX13_hotel_265 ?_
                                    refine zT.imul dX13_hotel_266 ?_
                                    refine zT.iload 7 dX13_hotel_267 rfl ?_
                                    refine zT.iadd dX13_hotel_269 ?_
                                    refine zT.iald dX13_hotel_270 (zMod.a1051 hb) (by first | assumption | exact zq_i _ | exact zand_i _ _ | exact zor_i _ _ | exact zN _ | omega) (by rw [(zMod.n1051 hb)]; first | assumption | exact zq_i _ | exact zand_i _ _ | exact zor_i _ _ | exact zN _ | omega) (fun z270 => ?_)
                                    have hst : mB (b + 31) ((201 * (k + 1)) + v) = hTb 999999 (aK (A 0 1023) (A 2)) NS (NS - k).toNat v := by
                                      rw [hj9]
                                      have h0 := hup (by omega)
                                      rw [ej8] at h0
                                      by_cases q : v = 0
                                      · first
                                          | (exfalso; omega)
                                          | (subst q
                                             rw [hTb_z, ← h0]
                                             omega)
                                      · first
                                          | (exfalso; omega)
                                          | (have h1 := hu9 (max 0 (v - (aK (A 0 1023) (A 2)) (48 + 2 * k + 0))) (by omega) (by omega)
                                             rw [hj9] at h1
                                             rw [hTb_s (by rw [ej9]; omega) (by omega), ej9, ← h0, ← h1]
                                             first
                                               | (rw [show max 0 (v - (aK (A 0 1023) (A 2)) (48 + 2 * k + 0)) = v - (aK (A 0 1023) (A 2)) (48 + 2 * k + 0) by omega] at *; omega)
                                               | (rw [show max 0 (v - (aK (A 0 1023) (A 2)) (48 + 2 * k + 0)) = 0 by omega] at *; omega))
                                    refine zT.iast dX13_hotel_271 (zMod.a1051 hb) (by first | assumption | exact zq_i _ | exact zand_i _ _ | exact zor_i _ _ | exact zN _ | omega) (by rw [(zMod.n1051 hb)]; first | assumption | exact zq_i _ | exact zand_i _ _ | exact zor_i _ _ | exact zN _ | omega) (by first | assumption | exact zq_i _ | exact zand_i _ _ | exact zor_i _ _ | exact zN _ | omega) ?_
                                    obtain ⟨m10, em10⟩ : ∃ z, z = zup mB (b + 31) ((201 * k) + v) (mB (b + 31) ((201 * (k + 1)) + v)) := ⟨_, rfl⟩
                                    rw [← em10]
                                    refine zT.iinc 7 dX13_hotel_272 rfl (by decide) (zpre1 rfl (zcI _)) ?_
                                    show zT G _ _ _ [zR b, zI n, zI u, zI a, zI need, zI NS, zI k, zI (v + 1), zI (v - ((aK (A 0 1023) (A 2)) (48 + 2 * k + 0))), zI ((mB (b + 31) ((201 * k) + (v - ((aK (A 0 1023) (A 2)) (48 + 2 * k + 0))))) + ((aK (A 0 1023) (A 2)) (48 + 2 * k + 1)))] _ _ _ _ _ _ _
                                    refine zT.goto (tgt := 129) dX13_hotel_275 (by decide) ?_
                                    refine zT.loc (V' := [zR b, zI n, zI u, zI a, zI need, zI NS, zI k, zI (v + 1), zU, zU]) ?_ ⟨Or.inr rfl, Or.inr rfl, Or.inr rfl, Or.inr rfl, Or.inr rfl, Or.inr rfl, Or.inr rfl, Or.inr rfl, Or.inl rfl, Or.inl rfl, trivial⟩
                                    exact ih129 _ _ (by rw [em10]; exact hz.up (by omega)) (by omega) (by omega) (by exact fun r w r0 r1 w0 w1 => by rw [em10, zup_ne (by omega)]; exact ht r w r0 r1 w0 w1) (by
                                        exact fun w w0 w1 => by
                                          by_cases q : w = v
                                          · rw [q, em10, zup_at]
                                            exact hst
                                          · rw [em10, zup_ne (by omega)]
                                            exact hu9 w w0 (by omega)) (by omega)
                                  · refine zT.iload 9 dX13_hotel_250 rfl ?_
                                    refine zT.goto (tgt := 271) dX13_hotel_252 (by decide) ?_
                                    have hst : (mB (b + 31) ((201 * k) + (v - ((aK (A 0 1023) (A 2)) (48 + 2 * k + 0))))) + ((aK (A 0 1023) (A 2)) (48 + 2 * k + 1)) = hTb 999999 (aK (A 0 1023) (A 2)) NS (NS - k).toNat v := by
                                      rw [hj9]
                                      have h0 := hup (by omega)
                                      rw [ej8] at h0
                                      by_cases q : v = 0
                                      · first
                                          | (exfalso; omega)
                                          | (subst q
                                             rw [hTb_z, ← h0]
                                             omega)
                                      · first
                                          | (exfalso; omega)
                                          | (have h1 := hu9 (max 0 (v - (aK (A 0 1023) (A 2)) (48 + 2 * k + 0))) (by omega) (by omega)
                                             rw [hj9] at h1
                                             rw [hTb_s (by rw [ej9]; omega) (by omega), ej9, ← h0, ← h1]
                                             first
                                               | (rw [show max 0 (v - (aK (A 0 1023) (A 2)) (48 + 2 * k + 0)) = v - (aK (A 0 1023) (A 2)) (48 + 2 * k + 0) by omega] at *; omega)
                                               | (rw [show max 0 (v - (aK (A 0 1023) (A 2)) (48 + 2 * k + 0)) = 0 by omega] at *; omega))
                                    refine zT.iast dX13_hotel_271 (zMod.a1051 hb) (by first | assumption | exact zq_i _ | exact zand_i _ _ | exact zor_i _ _ | exact zN _ | omega) (by rw [(zMod.n1051 hb)]; first | assumption | exact zq_i _ | exact zand_i _ _ | exact zor_i _ _ | exact zN _ | omega) (by first | assumption | exact zq_i _ | exact zand_i _ _ | exact zor_i _ _ | exact zN _ | omega) ?_
                                    obtain ⟨m11, em11⟩ : ∃ z, z = zup mB (b + 31) ((201 * k) + v) ((mB (b + 31) ((201 * k) + (v - ((aK (A 0 1023) (A 2)) (48 + 2 * k + 0))))) + ((aK (A 0 1023) (A 2)) (48 + 2 * k + 1))) := ⟨_, rfl⟩
                                    rw [← em11]
                                    refine zT.iinc 7 dX13_hotel_272 rfl (by decide) (zpre1 rfl (zcI _)) ?_
                                    show zT G _ _ _ [zR b, zI n, zI u, zI a, zI need, zI NS, zI k, zI (v + 1), zI (v - ((aK (A 0 1023) (A 2)) (48 + 2 * k + 0))), zI ((mB (b + 31) ((201 * k) + (v - ((aK (A 0 1023) (A 2)) (48 + 2 * k + 0))))) + ((aK (A 0 1023) (A 2)) (48 + 2 * k + 1)))] _ _ _ _ _ _ _
                                    refine zT.goto (tgt := 129) dX13_hotel_275 (by decide) ?_
                                    refine zT.loc (V' := [zR b, zI n, zI u, zI a, zI need, zI NS, zI k, zI (v + 1), zU, zU]) ?_ ⟨Or.inr rfl, Or.inr rfl, Or.inr rfl, Or.inr rfl, Or.inr rfl, Or.inr rfl, Or.inr rfl, Or.inr rfl, Or.inl rfl, Or.inl rfl, trivial⟩
                                    exact ih129 _ _ (by rw [em11]; exact hz.up (by omega)) (by omega) (by omega) (by exact fun r w r0 r1 w0 w1 => by rw [em11, zup_ne (by omega)]; exact ht r w r0 r1 w0 w1) (by
                                        exact fun w w0 w1 => by
                                          by_cases q : w = v
                                          · rw [q, em11, zup_at]
                                            exact hst
                                          · rw [em11, zup_ne (by omega)]
                                            exact hu9 w w0 (by omega)) (by omega)
                                · refine zT.ldcw 999999 q2033 (by decide +kernel) dX13_hotel_179 ?_
                                  refine zT.goto (tgt := 214) dX13_hotel_182 (by decide) ?_
                                  refine zT.istore 9 dX13_hotel_214 (by decide) (zpre1 rfl (zcI _)) ?_
                                  show zT G _ _ _ [zR b, zI n, zI u, zI a, zI need, zI NS, zI k, zI v, zI (v - ((aK (A 0 1023) (A 2)) (48 + 2 * k + 0))), zI 999999] _ _ _ _ _ _ _
                                  refine zT.aload_n 0 dX13_hotel_216 rfl rfl ?_
                                  refine zT.getF dX13_hotel_217 fX13_107 rfl (zMod.k hb) (j := 51) (by decide) rfl (zMod.f1051 hb) ?_
                                  refine zT.sipush dX13_hotel_220 ?_
                                  refine zT.iload 6 dX13_hotel_223 rfl ?_
                                  refine zT.imul dX13_hotel_225 ?_
                                  refine zT.iload 7 dX13_hotel_226 rfl ?_
                                  refine zT.iadd dX13_hotel_228 ?_
                                  refine zT.iload 9 dX13_hotel_229 rfl ?_
                                  refine zT.aload_n 0 dX13_hotel_231 rfl rfl ?_
                                  refine zT.getF dX13_hotel_232 fX13_107 rfl (zMod.k hb) (j := 51) (by decide) rfl (zMod.f1051 hb) ?_
                                  refine zT.sipush dX13_hotel_235 ?_
                                  refine zT.iload 6 dX13_hotel_238 rfl ?_
                                  refine zT.iconst dX13_hotel_240 ?_
                                  refine zT.iadd dX13_hotel_241 ?_
                                  refine zT.imul dX13_hotel_242 ?_
                                  refine zT.iload 7 dX13_hotel_243 rfl ?_
                                  refine zT.iadd dX13_hotel_245 ?_
                                  refine zT.iald dX13_hotel_246 (zMod.a1051 hb) (by first | assumption | exact zq_i _ | exact zand_i _ _ | exact zor_i _ _ | exact zN _ | omega) (by rw [(zMod.n1051 hb)]; first | assumption | exact zq_i _ | exact zand_i _ _ | exact zor_i _ _ | exact zN _ | omega) (fun z246 => ?_)
                                  refine zT.ic_ge (tgt := 255) dX13_hotel_247 (by decide) (by first | assumption | exact zq_i _ | exact zand_i _ _ | exact zor_i _ _ | exact zN _ | omega) (by first | assumption | exact zq_i _ | exact zand_i _ _ | exact zor_i _ _ | exact zN _ | omega) (fun c247 => ?_) (fun c247 => ?_)
                                  · refine zT.aload_n 0 dX13_hotel_255 rfl rfl ?_
                                    refine zT.getF dX13_hotel_256 fX13_107 rfl (zMod.k hb) (j := 51) (by decide) rfl (zMod.f1051 hb) ?_
                                    refine zT.sipush dX13_hotel_259 ?_
                                    refine zT.iload 6 dX13_hotel_262 rfl ?_
                                    refine zT.iconst dX13_hotel_264 ?_
                                    refine zT.iadd dX13_hotel_265 ?_
                                    refine zT.imul dX13_hotel_266 ?_
                                    refine zT.iload 7 dX13_hotel_267 rfl ?_
                                    refine zT.iadd dX13_hotel_269 ?_
                                    refine zT.iald dX13_hotel_270 (zMod.a1051 hb) (by first | assumption | exact zq_i _ | exact zand_i _ _ | exact zor_i _ _ | exact zN _ | omega) (by rw [(zMod.n1051 hb)]; first | assumption | exact zq_i _ | exact zand_i _ _ | exact zor_i _ _ | exact zN _ | omega) (fun z270 => ?_)
                                    have hst : mB (b + 31) ((201 * (k + 1)) + v) = hTb 999999 (aK (A 0 1023) (A 2)) NS (NS - k).toNat v := by
                                      rw [hj9]
                                      have h0 := hup (by omega)
                                      rw [ej8] at h0
                                      by_cases q : v = 0
                                      · first
                                          | (exfalso; omega)
                                          | (subst q
                                             rw [hTb_z, ← h0]
                                             omega)
                                      · first
                                          | (exfalso; omega)
                                          | (have h1 := hu9 (max 0 (v - (aK (A 0 1023) (A 2)) (48 + 2 * k + 0))) (by omega) (by omega)
                                             rw [hj9] at h1
                                             rw [hTb_s (by rw [ej9]; omega) (by omega), ej9, ← h0, ← h1]
                                             first
                                               | (rw [show max 0 (v - (aK (A 0 1023) (A 2)) (48 + 2 * k + 0)) = v - (aK (A 0 1023) (A 2)) (48 + 2 * k + 0) by omega] at *; omega)
                                               | (rw [show max 0 (v - (aK (A 0 1023) (A 2)) (48 + 2 * k + 0)) = 0 by omega] at *; omega))
                                    refine zT.iast dX13_hotel_271 (zMod.a1051 hb) (by first | assumption | exact zq_i _ | exact zand_i _ _ | exact zor_i _ _ | exact zN _ | omega) (by rw [(zMod.n1051 hb)]; first | assumption | exact zq_i _ | exact zand_i _ _ | exact zor_i _ _ | exact zN _ | omega) (by first | assumption | exact zq_i _ | exact zand_i _ _ | exact zor_i _ _ | exact zN _ | omega) ?_
                                    obtain ⟨m12, em12⟩ : ∃ z, z = zup mB (b + 31) ((201 * k) + v) (mB (b + 31) ((201 * (k + 1)) + v)) := ⟨_, rfl⟩
                                    rw [← em12]
                                    refine zT.iinc 7 dX13_hotel_272 rfl (by decide) (zpre1 rfl (zcI _)) ?_
                                    show zT G _ _ _ [zR b, zI n, zI u, zI a, zI need, zI NS, zI k, zI (v + 1), zI (v - ((aK (A 0 1023) (A 2)) (48 + 2 * k + 0))), zI 999999] _ _ _ _ _ _ _
                                    refine zT.goto (tgt := 129) dX13_hotel_275 (by decide) ?_
                                    refine zT.loc (V' := [zR b, zI n, zI u, zI a, zI need, zI NS, zI k, zI (v + 1), zU, zU]) ?_ ⟨Or.inr rfl, Or.inr rfl, Or.inr rfl, Or.inr rfl, Or.inr rfl, Or.inr rfl, Or.inr rfl, Or.inr rfl, Or.inl rfl, Or.inl rfl, trivial⟩
                                    exact ih129 _ _ (by rw [em12]; exact hz.up (by omega)) (by omega) (by omega) (by exact fun r w r0 r1 w0 w1 => by rw [em12, zup_ne (by omega)]; exact ht r w r0 r1 w0 w1) (by
                                        exact fun w w0 w1 => by
                                          by_cases q : w = v
                                          · rw [q, em12, zup_at]
                                            exact hst
                                          · rw [em12, zup_ne (by omega)]
                                            exact hu9 w w0 (by omega)) (by omega)
                                  · refine zT.iload 9 dX13_hotel_250 rfl ?_
                                    refine zT.goto (tgt := 271) dX13_hotel_252 (by decide) ?_
                                    have hst : 999999 = hTb 999999 (aK (A 0 1023) (A 2)) NS (NS - k).toNat v := by
                                      rw [hj9]
                                      have h0 := hup (by omega)
                                      rw [ej8] at h0
                                      by_cases q : v = 0
                                      · first
                                          | (exfalso; omega)
                                          | (subst q
                                             rw [hTb_z, ← h0]
                                             omega)
                                      · first
                                          | (exfalso; omega)
                                          | (have h1 := hu9 (max 0 (v - (aK (A 0 1023) (A 2)) (48 + 2 * k + 0))) (by omega) (by omega)
                                             rw [hj9] at h1
                                             rw [hTb_s (by rw [ej9]; omega) (by omega), ej9, ← h0, ← h1]
                                             first
                                               | (rw [show max 0 (v - (aK (A 0 1023) (A 2)) (48 + 2 * k + 0)) = v - (aK (A 0 1023) (A 2)) (48 + 2 * k + 0) by omega] at *; omega)
                                               | (rw [show max 0 (v - (aK (A 0 1023) (A 2)) (48 + 2 * k + 0)) = 0 by omega] at *; omega))
                                    refine zT.iast dX13_hotel_271 (zMod.a1051 hb) (by first | assumption | exact zq_i _ | exact zand_i _ _ | exact zor_i _ _ | exact zN _ | omega) (by rw [(zMod.n1051 hb)]; first | assumption | exact zq_i _ | exact zand_i _ _ | exact zor_i _ _ | exact zN _ | omega) (by first | assumption | exact zq_i _ | exact zand_i _ _ | exact zor_i _ _ | exact zN _ | omega) ?_
                                    obtain ⟨m13, em13⟩ : ∃ z, z = zup mB (b + 31) ((201 * k) + v) 999999 := ⟨_, rfl⟩
                                    rw [← em13]
                                    refine zT.iinc 7 dX13_hotel_272 rfl (by decide) (zpre1 rfl (zcI _)) ?_
                                    show zT G _ _ _ [zR b, zI n, zI u, zI a, zI need, zI NS, zI k, zI (v + 1), zI (v - ((aK (A 0 1023) (A 2)) (48 + 2 * k + 0))), zI 999999] _ _ _ _ _ _ _
                                    refine zT.goto (tgt := 129) dX13_hotel_275 (by decide) ?_
                                    refine zT.loc (V' := [zR b, zI n, zI u, zI a, zI need, zI NS, zI k, zI (v + 1), zU, zU]) ?_ ⟨Or.inr rfl, Or.inr rfl, Or.inr rfl, Or.inr rfl, Or.inr rfl, Or.inr rfl, Or.inr rfl, Or.inr rfl, Or.inl rfl, Or.inl rfl, trivial⟩
                                    exact ih129 _ _ (by rw [em13]; exact hz.up (by omega)) (by omega) (by omega) (by exact fun r w r0 r1 w0 w1 => by rw [em13, zup_ne (by omega)]; exact ht r w r0 r1 w0 w1) (by
                                        exact fun w w0 w1 => by
                                          by_cases q : w = v
                                          · rw [q, em13, zup_at]
                                            exact hst
                                          · rw [em13, zup_ne (by omega)]
                                            exact hu9 w w0 (by omega)) (by omega)
                        exact L129 _ _ _ (by exact hz) (by first | assumption | exact zq_i _ | exact zand_i _ _ | exact zor_i _ _ | exact zN _ | omega) (by first | assumption | exact zq_i _ | exact zand_i _ _ | exact zor_i _ _ | exact zN _ | omega) (by exact ht) (by exact fun w a b => by omega) (Nat.lt_succ_self _)
                  exact L121 _ _ _ (by exact hz) (by omega) (by omega) (by
                      exact fun r w r0 r1 w0 w1 => by
                        obtain rfl : r = NS := by omega
                        rw [show (r - r).toNat = 0 by omega]
                        exact ht w w0 (by omega)) (Nat.lt_succ_self _)
                · refine zT.aload_n 0 dX13_hotel_83 rfl rfl ?_
                  refine zT.getF dX13_hotel_84 fX13_107 rfl (zMod.k hb) (j := 51) (by decide) rfl (zMod.f1051 hb) ?_
                  refine zT.sipush dX13_hotel_87 ?_
                  refine zT.iload 5 dX13_hotel_90 rfl ?_
                  refine zT.imul dX13_hotel_92 ?_
                  refine zT.iload 6 dX13_hotel_93 rfl ?_
                  refine zT.iadd dX13_hotel_95 ?_
                  refine zT.iload 6 dX13_hotel_96 rfl ?_
                  refine zT.if_ne (tgt := 105) dX13_hotel_98 (by decide) (by first | assumption | exact zq_i _ | exact zand_i _ _ | exact zor_i _ _ | exact zN _ | omega) (fun c98 => ?_) (fun c98 => ?_)
                  · refine zT.ldcw 999999 q2033 (by decide +kernel) dX13_hotel_105 ?_
                    refine zT.iast dX13_hotel_108 (zMod.a1051 hb) (by first | assumption | exact zq_i _ | exact zand_i _ _ | exact zor_i _ _ | exact zN _ | omega) (by rw [(zMod.n1051 hb)]; first | assumption | exact zq_i _ | exact zand_i _ _ | exact zor_i _ _ | exact zN _ | omega) (by first | assumption | exact zq_i _ | exact zand_i _ _ | exact zor_i _ _ | exact zN _ | omega) ?_
                    obtain ⟨m14, em14⟩ : ∃ z, z = zup mA (b + 31) ((201 * NS) + v) 999999 := ⟨_, rfl⟩
                    rw [← em14]
                    refine zT.iinc 6 dX13_hotel_109 rfl (by decide) (zpre1 rfl (zcI _)) ?_
                    show zT G _ _ _ [zR b, zI n, zI u, zI a, zI need, zI NS, zI (v + 1), zU, zU, zU] _ _ _ _ _ _ _
                    refine zT.goto (tgt := 76) dX13_hotel_112 (by decide) ?_
                    exact ih76 _ _ (by rw [em14]; exact hz.up (by omega)) (by omega) (by omega) (by
                        exact fun w w0 w1 => by
                          by_cases q : w = v
                          · rw [q, em14, zup_ae (by omega)]
                            show _ = if v = 0 then 0 else 999999
                            first | rw [if_pos (by omega)] | rw [if_neg (by omega)]
                          · rw [em14, zup_ne (by omega)]
                            exact ht w w0 (by omega)) (by omega)
                  · refine zT.iconst dX13_hotel_101 ?_
                    refine zT.goto (tgt := 108) dX13_hotel_102 (by decide) ?_
                    refine zT.iast dX13_hotel_108 (zMod.a1051 hb) (by first | assumption | exact zq_i _ | exact zand_i _ _ | exact zor_i _ _ | exact zN _ | omega) (by rw [(zMod.n1051 hb)]; first | assumption | exact zq_i _ | exact zand_i _ _ | exact zor_i _ _ | exact zN _ | omega) (by first | assumption | exact zq_i _ | exact zand_i _ _ | exact zor_i _ _ | exact zN _ | omega) ?_
                    obtain ⟨m15, em15⟩ : ∃ z, z = zup mA (b + 31) ((201 * NS) + v) 0 := ⟨_, rfl⟩
                    rw [← em15]
                    refine zT.iinc 6 dX13_hotel_109 rfl (by decide) (zpre1 rfl (zcI _)) ?_
                    show zT G _ _ _ [zR b, zI n, zI u, zI a, zI need, zI NS, zI (v + 1), zU, zU, zU] _ _ _ _ _ _ _
                    refine zT.goto (tgt := 76) dX13_hotel_112 (by decide) ?_
                    exact ih76 _ _ (by rw [em15]; exact hz.up (by omega)) (by omega) (by omega) (by
                        exact fun w w0 w1 => by
                          by_cases q : w = v
                          · rw [q, em15, zup_ae (by omega)]
                            show _ = if v = 0 then 0 else 999999
                            first | rw [if_pos (by omega)] | rw [if_neg (by omega)]
                          · rw [em15, zup_ne (by omega)]
                            exact ht w w0 (by omega)) (by omega)
            exact L76 _ _ _ (by exact zHm.rf) (by first | assumption | exact zq_i _ | exact zand_i _ _ | exact zor_i _ _ | exact zN _ | omega) (by first | assumption | exact zq_i _ | exact zand_i _ _ | exact zor_i _ _ | exact zN _ | omega) (by exact fun w a b => by omega) (Nat.lt_succ_self _)
          · refine zT.iconst dX13_hotel_71 ?_
            refine zT.iret dX13_hotel_72 rfl ?_
            rw [eQ9]
            exact ⟨by rw [if_neg (fun z => by have := hN1 z.2.2.2.1; omega)], rfl, hI2, fun z => by have := hN1 z.2.2.2.1; omega, fun _ => hE2⟩
      · refine zT.iconst dX13_hotel_41 ?_
        refine zT.iret dX13_hotel_42 rfl ?_
        rw [eQ9]
        refine ⟨by rw [if_neg (by omega)], rfl, hI2, fun q => by omega, fun _ => hE2⟩

