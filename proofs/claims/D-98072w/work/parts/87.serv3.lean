/-! served: the model (written by gen/m_serv3.py) -/
/-- only the guests' cells of the model change -/
def zHv (b : Int) (m m2 : zMm) : Prop := ∀ a j, a ≠ b + 28 → a ≠ b + 29 → a ≠ b + 30 → ¬ (a = b ∧ j = 1049) → m2 a j = m a j
theorem zHv.rf {b : Int} {m : zMm} : zHv b m m := fun _ _ _ _ _ _ => rfl
theorem zHv.up {b a i v : Int} {m m2 : zMm} (h : zHv b m m2) (ha : a = b + 28 ∨ a = b + 29 ∨ a = b + 30 ∨ (a = b ∧ i = 1049)) : zHv b m (zup m2 a i v) := fun c j h1 h2 h3 h4 => by
  rw [zup_ne (by omega)]
  exact h c j h1 h2 h3 h4
theorem zHv.inn {b : Int} {m m2 : zMm} (h : zHv b m m2) : zIn b m m2 := fun a ha j => h a j (by omega) (by omega) (by omega) (by omega)
theorem yEw.serv {b n : Int} {m m2 : zMm} {A : zMm} (h : yEw m b A) (hz : zHv b m m2) (h1 : m2 b 1049 = n) : yEw m2 b (uSv A n (m2 (b + 29))) := fun o j q => by
  unfold uSv
  by_cases e : o = 29
  · rw [if_pos e, e]
  · rw [if_neg e]
    by_cases e2 : o = 0 ∧ j = 1049
    · rw [if_pos e2, e2.1, e2.2, Int.add_zero]; exact h1
    · rw [if_neg e2, hz _ _ (by unfold zUw at q; omega) (by omega) (by unfold zUw at q; omega) (by omega)]
      exact h o j q
/-- the two counts of ends -/
theorem sEnd {u : Int} (h0 : 1 ≤ u) (h1 : u ≤ 40) : 340 / u + 1 = 341 / u ∨ (340 / u + 1 = 341 / u + 1 ∧ 340 ≤ u * (341 / u + 1)) := by
  have a := Int.mul_ediv_add_emod 341 u
  have b := Int.emod_nonneg 341 (show u ≠ 0 by omega)
  have c := Int.emod_lt_of_pos 341 (show 0 < u by omega)
  have e : u * (341 / u + 1) = u * (341 / u) + u := by rw [Int.mul_add, Int.mul_one]
  by_cases q : 341 % u = 0
  · refine Or.inl ?_
    have e2 : u * (341 / u - 1) = u * (341 / u) - u := by rw [Int.mul_sub, Int.mul_one]
    have z : 340 / u = 341 / u - 1 := by
      refine Int.le_antisymm (Int.lt_add_one_iff.mp ?_) ((Int.le_ediv_iff_mul_le (by omega)).mpr (by rw [Int.mul_comm]; omega))
      rw [show 341 / u - 1 + 1 = 341 / u by omega]
      exact Int.ediv_lt_of_lt_mul (by omega) (by rw [Int.mul_comm]; omega)
    omega
  · refine Or.inr ⟨?_, by omega⟩
    have z : 340 / u = 341 / u := by
      refine Int.le_antisymm (Int.lt_add_one_iff.mp ?_) ((Int.le_ediv_iff_mul_le (by omega)).mpr (by rw [Int.mul_comm]; omega))
      exact Int.ediv_lt_of_lt_mul (by omega) (by rw [Int.mul_comm]; omega)
    omega
theorem C_X13_served {G : zG} {S : zS} {m : zMm} {b : Int} {A : zMm} (hb : zMod S b) (hA : yEq m b A) (hV : aVd A) {u : Int} (hu : zi u) : zC G mX13_served 4 0 0 [zR b, zI u] S m (/- qabs -/ (fun v S' m' => v = some (zI (if 1 ≤ u ∧ u ≤ 40 then sTb (aK (A 0 1023) (A 2)) u (341 / u) (341 / u).toNat 0 else -1)) ∧ S' = S ∧ zIn b m m' ∧ ((1 ≤ u ∧ u ≤ 40) → yEw m' b (uSv (uLay (zup A 0 1000 0)) ((aK (A 0 1023) (A 2)) 6) (m' (b + 29))) ∧ ∀ g, 0 ≤ g → g < (aK (A 0 1023) (A 2)) 6 → m' (b + 29) g = sAt (aK (A 0 1023) (A 2)) u (341 / u) g (341 / u).toNat) ∧ (¬ (1 ≤ u ∧ u ≤ 40) → yEw m' b (uLay (zup A 0 1000 0))))) zNX := by
  have ym := hA.R hV
  have nm := ym.n
  have sm := ym.s
  have rm := ym.r
  have hk := hV.ki.1
  have hk0 := hk.1
  have hp0 := hV.pl.1
  have hp1 := hV.pl.2.1
  refine zC.of [zR b, zI u, zU, zU, zU, zU, zU, zU, zU, zU] (by decide) rfl (zEn1 (zcR _) (zEn1 (zcI _) (zEn0 (by simp)))) rfl ?_
  refine zT.rng hb.a1014 (fun zN => ?_)
  obtain ⟨Q9, eQ9⟩ : ∃ z : zQt, z = (/- qabs -/ (fun v S' m' => v = some (zI (if 1 ≤ u ∧ u ≤ 40 then sTb (aK (A 0 1023) (A 2)) u (341 / u) (341 / u).toNat 0 else -1)) ∧ S' = S ∧ zIn b m m' ∧ ((1 ≤ u ∧ u ≤ 40) → yEw m' b (uSv (uLay (zup A 0 1000 0)) ((aK (A 0 1023) (A 2)) 6) (m' (b + 29))) ∧ ∀ g, 0 ≤ g → g < (aK (A 0 1023) (A 2)) 6 → m' (b + 29) g = sAt (aK (A 0 1023) (A 2)) u (341 / u) g (341 / u).toNat) ∧ (¬ (1 ≤ u ∧ u ≤ 40) → yEw m' b (uLay (zup A 0 1000 0))))) := ⟨_, rfl⟩
  rw [← eQ9]
  refine zT.aload_n 0 dX13_served_0 rfl rfl ?_
  refine zT.iconst dX13_served_1 ?_
  refine zT.putI dX13_served_2 fX13_122 zs_1000 rfl (zMod.k hb) (j := 0) (by decide) rfl (by first | assumption | exact zq_i _ | exact zand_i _ _ | exact zor_i _ _ | exact zN _ | omega) ?_
  obtain ⟨m1, em1⟩ : ∃ z, z = zup m b 1000 0 := ⟨_, rfl⟩
  rw [← em1]
  have ym1 : yR m1 b A := by rw [em1]; exact ym.up (by omega)
  have nm1 := ym1.n
  have sm1 := ym1.s
  have rm1 := ym1.r
  refine zT.aload_n 0 dX13_served_5 rfl rfl ?_
  refine zT.callV (M' := mX13_lay) (b := b) [] [] dX13_served_6 kX13_202 rfl rfl (ci := 10) (r := (RX13, TX13, 62)) rfl (zMod.k hb) (C_X13_lay hb) (by decide) (k' := 0) (n' := 0) (by omega) (by omega) (by decide) (zdk (v := none) ?_) (fun _ _ _ _ h => h.elim)
  show zT G _ _ _ _ [] _ _ _ _ _ _
  obtain ⟨m2, em2⟩ : ∃ z, z = ylaid m1 b := ⟨_, rfl⟩
  rw [← em2]
  have ym2 : yL m2 b A := by rw [em2]; exact hA.L2 hV (fun j => by rw [em1, zup_ne (by omega)]) (by rw [em1, zup_ne (by omega)])
  have nm2 := ym2.1.n
  have sm2 := ym2.1.s
  have rm2 := ym2.1.r
  have hI2 : zIn b m m2 := by rw [em2, em1]; exact zIn.rf.up0.lay
  have hE2 : yEw m2 b (uLay (zup A 0 1000 0)) := by rw [em2, em1]; exact hA.up0.lay.w
  refine zT.iload_n 1 dX13_served_9 rfl rfl ?_
  refine zT.iconst dX13_served_10 ?_
  refine zT.bipush dX13_served_11 ?_
  refine zT.callS (M' := mX13_isIn) [zI u, zI 1, zI 40] [] dX13_served_13 kX13_189 rfl rfl (C_X13_isIn (by first | assumption | exact zq_i _ | exact zand_i _ _ | exact zor_i _ _ | exact zN _ | omega) (by first | assumption | exact zq_i _ | exact zand_i _ _ | exact zor_i _ _ | exact zN _ | omega) (by first | assumption | exact zq_i _ | exact zand_i _ _ | exact zor_i _ _ | exact zN _ | omega)) (by decide) (k' := 0) (n' := 0) (by omega) (by omega) (by decide) (zdk (v := some (zI (zq (1 ≤ u ∧ u ≤ 40)))) ?_) (fun _ _ _ _ h => h.elim)
  show zT G _ _ _ _ [zI (zq (1 ≤ u ∧ u ≤ 40))] _ _ _ _ _ _
  refine zT.if_neB (tgt := 21) dX13_served_16 (by decide) (fun c16 => ?_) (fun c16 => ?_)
  · refine zT.aload_n 0 dX13_served_21 rfl rfl ?_
    refine zT.getF dX13_served_22 fX13_13 rfl (zMod.k hb) (j := 14) (by decide) rfl (zMod.f1014 hb) ?_
    refine zT.bipush dX13_served_25 ?_
    refine zT.iald dX13_served_27 (zMod.a1014 hb) (by first | assumption | exact zq_i _ | exact zand_i _ _ | exact zor_i _ _ | exact zN _ | omega) (by rw [(zMod.n1014 hb)]; first | assumption | exact zq_i _ | exact zand_i _ _ | exact zor_i _ _ | exact zN _ | omega) (fun z27 => ?_)
    rw [show m2 (b + 2) 6 = ((aK (A 0 1023) (A 2)) 6) from ym2.2 6 (by omega) (by omega)]
    show zT G _ _ _ _ [zI ((aK (A 0 1023) (A 2)) 6)] _ _ _ _ _ _
    refine zT.istore_n 2 dX13_served_28 rfl (by decide) (zpre1 rfl (zcI _)) ?_
    show zT G _ _ _ [zR b, zI u, zI ((aK (A 0 1023) (A 2)) 6), zU, zU, zU, zU, zU, zU, zU] _ _ _ _ _ _ _
    refine zT.iconst dX13_served_29 ?_
    refine zT.iload_n 2 dX13_served_30 rfl rfl ?_
    refine zT.ishl dX13_served_31 (by first | assumption | exact zq_i _ | exact zand_i _ _ | exact zor_i _ _ | exact zN _ | omega) (by first | assumption | exact zq_i _ | exact zand_i _ _ | exact zor_i _ _ | exact zN _ | omega) ?_
    rw [show (1 : Int) * 2 ^ (((aK (A 0 1023) (A 2)) 6)).toNat = (sAl (aK (A 0 1023) (A 2))) + 1 by unfold sAl; omega]
    show zT G _ _ _ _ [zI ((sAl (aK (A 0 1023) (A 2))) + 1)] _ _ _ _ _ _
    refine zT.istore_n 3 dX13_served_32 rfl (by decide) (zpre1 rfl (zcI _)) ?_
    show zT G _ _ _ [zR b, zI u, zI ((aK (A 0 1023) (A 2)) 6), zI ((sAl (aK (A 0 1023) (A 2))) + 1), zU, zU, zU, zU, zU, zU] _ _ _ _ _ _ _
    refine zT.sipush dX13_served_33 ?_
    refine zT.iload_n 1 dX13_served_36 rfl rfl ?_
    refine zT.idiv dX13_served_37 (by first | assumption | exact zq_i _ | exact zand_i _ _ | exact zor_i _ _ | exact zN _ | omega) (by first | assumption | exact zq_i _ | exact zand_i _ _ | exact zor_i _ _ | exact zN _ | omega) (by first | assumption | exact zq_i _ | exact zand_i _ _ | exact zor_i _ _ | exact zN _ | omega) (by first | assumption | exact zq_i _ | exact zand_i _ _ | exact zor_i _ _ | exact zN _ | omega) ?_
    obtain ⟨E, hE0⟩ : ∃ z, z = 341 / u := ⟨_, rfl⟩
    rw [← hE0]
    have hEb : 8 ≤ E ∧ E ≤ 341 := by
          have h1 : 341 / u ≤ 341 := Int.ediv_le_self _ (by omega)
          have h2 : 8 ≤ 341 / u := (Int.le_ediv_iff_mul_le (by omega)).mpr (by omega)
          omega
    have hA9 := sAl_b hk
    show zT G _ _ _ _ [zI E] _ _ _ _ _ _
    refine zT.istore 4 dX13_served_38 (by decide) (zpre1 rfl (zcI _)) ?_
    show zT G _ _ _ [zR b, zI u, zI ((aK (A 0 1023) (A 2)) 6), zI ((sAl (aK (A 0 1023) (A 2))) + 1), zI E, zU, zU, zU, zU, zU] _ _ _ _ _ _ _
    refine zT.iconst dX13_served_40 ?_
    refine zT.istore 5 dX13_served_41 (by decide) (zpre1 rfl (zcI _)) ?_
    show zT G _ _ _ [zR b, zI u, zI ((aK (A 0 1023) (A 2)) 6), zI ((sAl (aK (A 0 1023) (A 2))) + 1), zI E, zI 0, zU, zU, zU, zU] _ _ _ _ _ _ _
    have L43 : ∀ (N : Nat) (mA : zMm) (t : Int), (zHv b m2 mA) → (0 ≤ t) → (t ≤ (sAl (aK (A 0 1023) (A 2))) + 1) → (∀ w, 0 ≤ w → w < t → mA (b + 28) (256 * E + w) = 0) → (((sAl (aK (A 0 1023) (A 2))) + 1 - t).toNat) < N → zT G mX13_served 4 43 [zR b, zI u, zI ((aK (A 0 1023) (A 2)) 6), zI ((sAl (aK (A 0 1023) (A 2))) + 1), zI E, zI t, zU, zU, zU, zU] [] S mA 0 0 Q9 zNX := by
      intro N
      induction N with
      | zero => intro mA t hz t0 t1 hT hN; exact absurd hN (Nat.not_lt_zero _)
      | succ N ih43 =>
        intro mA t hz t0 t1 hT hN
        refine zT.iload 5 dX13_served_43 rfl ?_
        refine zT.iload_n 3 dX13_served_45 rfl rfl ?_
        refine zT.ic_ge (tgt := 70) dX13_served_46 (by decide) (by first | assumption | exact zq_i _ | exact zand_i _ _ | exact zor_i _ _ | exact zN _ | omega) (by first | assumption | exact zq_i _ | exact zand_i _ _ | exact zor_i _ _ | exact zN _ | omega) (fun c46 => ?_) (fun c46 => ?_)
        · refine zT.iload 4 dX13_served_70 rfl ?_
          refine zT.iconst dX13_served_72 ?_
          refine zT.isub dX13_served_73 ?_
          refine zT.istore 5 dX13_served_74 (by decide) (zpre1 rfl (zcI _)) ?_
          show zT G _ _ _ [zR b, zI u, zI ((aK (A 0 1023) (A 2)) 6), zI ((sAl (aK (A 0 1023) (A 2))) + 1), zI E, zI (E - 1), zU, zU, zU, zU] _ _ _ _ _ _ _
          have L76 : ∀ (N : Nat) (mA : zMm) (e : Int), (zHv b m2 mA) → (-1 ≤ e) → (e < E) → (∀ r w, e < r → r ≤ E → 0 ≤ w → w ≤ (sAl (aK (A 0 1023) (A 2))) → mA (b + 28) (256 * r + w) = sTb (aK (A 0 1023) (A 2)) u E (E - r).toNat w) → ((e + 1).toNat) < N → zT G mX13_served 4 76 [zR b, zI u, zI ((aK (A 0 1023) (A 2)) 6), zI ((sAl (aK (A 0 1023) (A 2))) + 1), zI E, zI e, zU, zU, zU, zU] [] S mA 0 0 Q9 zNX := by
            intro N
            induction N with
            | zero => intro mA e hz e0 e1 ht hN; exact absurd hN (Nat.not_lt_zero _)
            | succ N ih76 =>
              intro mA e hz e0 e1 ht hN
              refine zT.iload 5 dX13_served_76 rfl ?_
              refine zT.if_lt (tgt := 257) dX13_served_78 (by decide) (by first | assumption | exact zq_i _ | exact zand_i _ _ | exact zor_i _ _ | exact zN _ | omega) (fun c78 => ?_) (fun c78 => ?_)
              · refine zT.iconst dX13_served_257 ?_
                refine zT.istore 5 dX13_served_258 (by decide) (zpre1 rfl (zcI _)) ?_
                show zT G _ _ _ [zR b, zI u, zI ((aK (A 0 1023) (A 2)) 6), zI ((sAl (aK (A 0 1023) (A 2))) + 1), zI E, zI 0, zU, zU, zU, zU] _ _ _ _ _ _ _
                have L260 : ∀ (N : Nat) (mA : zMm) (g : Int), (zHv b m2 mA) → (∀ r w, 0 ≤ r → r ≤ E → 0 ≤ w → w ≤ (sAl (aK (A 0 1023) (A 2))) → mA (b + 28) (256 * r + w) = sTb (aK (A 0 1023) (A 2)) u E (E - r).toNat w) → (0 ≤ g) → (g ≤ ((aK (A 0 1023) (A 2)) 6)) → (∀ j, 0 ≤ j → j < g → mA (b + 29) j = -1) → ((((aK (A 0 1023) (A 2)) 6) - g).toNat) < N → zT G mX13_served 4 260 [zR b, zI u, zI ((aK (A 0 1023) (A 2)) 6), zI ((sAl (aK (A 0 1023) (A 2))) + 1), zI E, zI g, zU, zU, zU, zU] [] S mA 0 0 Q9 zNX := by
                  intro N
                  induction N with
                  | zero => intro mA g hz ht g0 g1 hs hN; exact absurd hN (Nat.not_lt_zero _)
                  | succ N ih260 =>
                    intro mA g hz ht g0 g1 hs hN
                    refine zT.iload 5 dX13_served_260 rfl ?_
                    refine zT.iload_n 2 dX13_served_262 rfl rfl ?_
                    refine zT.ic_ge (tgt := 280) dX13_served_263 (by decide) (by first | assumption | exact zq_i _ | exact zand_i _ _ | exact zor_i _ _ | exact zN _ | omega) (by first | assumption | exact zq_i _ | exact zand_i _ _ | exact zor_i _ _ | exact zN _ | omega) (fun c263 => ?_) (fun c263 => ?_)
                    · refine zT.aload_n 0 dX13_served_280 rfl rfl ?_
                      refine zT.iload_n 2 dX13_served_281 rfl rfl ?_
                      refine zT.putI dX13_served_282 fX13_419 zs_1049 rfl (zMod.k hb) (j := 49) (by decide) rfl (by first | assumption | exact zq_i _ | exact zand_i _ _ | exact zor_i _ _ | exact zN _ | omega) ?_
                      obtain ⟨m3, em3⟩ : ∃ z, z = zup mA b 1049 ((aK (A 0 1023) (A 2)) 6) := ⟨_, rfl⟩
                      rw [← em3]
                      refine zT.iconst dX13_served_285 ?_
                      refine zT.istore 5 dX13_served_286 (by decide) (zpre1 rfl (zcI _)) ?_
                      show zT G _ _ _ [zR b, zI u, zI ((aK (A 0 1023) (A 2)) 6), zI ((sAl (aK (A 0 1023) (A 2))) + 1), zI E, zI 0, zU, zU, zU, zU] _ _ _ _ _ _ _
                      refine zT.iconst dX13_served_288 ?_
                      refine zT.istore 6 dX13_served_289 (by decide) (zpre1 rfl (zcI _)) ?_
                      show zT G _ _ _ [zR b, zI u, zI ((aK (A 0 1023) (A 2)) 6), zI ((sAl (aK (A 0 1023) (A 2))) + 1), zI E, zI 0, zI 0, zU, zU, zU] _ _ _ _ _ _ _
                      have L291 : ∀ (N : Nat) (mA : zMm) (h : Int) (e : Int), (zHv b m2 mA) → (∀ r w, 0 ≤ r → r ≤ E → 0 ≤ w → w ≤ (sAl (aK (A 0 1023) (A 2))) → mA (b + 28) (256 * r + w) = sTb (aK (A 0 1023) (A 2)) u E (E - r).toNat w) → (mA b 1049 = ((aK (A 0 1023) (A 2)) 6)) → (0 ≤ e) → (e ≤ E) → (h = sHd (aK (A 0 1023) (A 2)) u E e.toNat) → (∀ g, 0 ≤ g → g < ((aK (A 0 1023) (A 2)) 6) → mA (b + 29) g = sAt (aK (A 0 1023) (A 2)) u E g e.toNat) → ((E - e).toNat) < N → zT G mX13_served 4 291 [zR b, zI u, zI ((aK (A 0 1023) (A 2)) 6), zI ((sAl (aK (A 0 1023) (A 2))) + 1), zI E, zI h, zI e, zU, zU, zU] [] S mA 0 0 Q9 zNX := by
                        intro N
                        induction N with
                        | zero => intro mA h e hz ht h32 e0 e1 hh hs hN; exact absurd hN (Nat.not_lt_zero _)
                        | succ N ih291 =>
                          intro mA h e hz ht h32 e0 e1 hh hs hN
                          have hhb := sHd_b (u := u) (E := E) hk e.toNat (by omega)
                          rw [← hh] at hhb
                          refine zT.iload 6 dX13_served_291 rfl ?_
                          refine zT.iload 4 dX13_served_293 rfl ?_
                          refine zT.ic_ge (tgt := 429) dX13_served_295 (by decide) (by first | assumption | exact zq_i _ | exact zand_i _ _ | exact zor_i _ _ | exact zN _ | omega) (by first | assumption | exact zq_i _ | exact zand_i _ _ | exact zor_i _ _ | exact zN _ | omega) (fun c295 => ?_) (fun c295 => ?_)
                          · refine zT.aload_n 0 dX13_served_429 rfl rfl ?_
                            refine zT.getF dX13_served_430 fX13_98 rfl (zMod.k hb) (j := 47) (by decide) rfl (zMod.f1047 hb) ?_
                            refine zT.iconst dX13_served_433 ?_
                            refine zT.iald dX13_served_434 (zMod.a1047 hb) (by first | assumption | exact zq_i _ | exact zand_i _ _ | exact zor_i _ _ | exact zN _ | omega) (by rw [(zMod.n1047 hb)]; first | assumption | exact zq_i _ | exact zand_i _ _ | exact zor_i _ _ | exact zN _ | omega) (fun z434 => ?_)
                            refine zT.iret dX13_served_435 rfl ?_
                            rw [eQ9]
                            have he9 : e = E := by omega
                            rw [he9] at hs
                            have h9 := ht 0 0 (by omega) (by omega) (by omega) hA9.1
                            rw [show (256 : Int) * 0 + 0 = 0 by omega, show (E - 0).toNat = E.toNat by rw [Int.sub_zero]] at h9
                            refine ⟨?_, rfl, hI2.tr hz.inn, fun _ => ⟨hE2.serv hz h32, ?_⟩, fun q => absurd ⟨by omega, by omega⟩ q⟩
                            · rw [if_pos (by omega), ← hE0, h9]
                            · rw [← hE0]; exact hs
                          · have hpk := sPk_b (u := u) (E := E) (e := e) hk e0 (by omega) hhb.1 hhb.2
                            have hhs := fSu_al hk hhb.1 hhb.2
                            have hut := zmulb (a := u) (A := 40) (b := e + 1) (B := 341) (by omega) (by omega) (by omega) (by omega)
                            have hkA : zMK mA b (aK (A 0 1023) (A 2)) := fun i i0 i1 => by rw [hz _ _ (by omega) (by omega) (by omega) (by omega)]; exact ym2.2 i i0 i1
                            have hcu := ht e h e0 (by omega) hhb.1 hhb.2
                            have hK0 := ym2.2 0 (by omega) (by omega)
                            refine zT.iconst dX13_served_298 ?_
                            refine zT.istore 7 dX13_served_299 (by decide) (zpre1 rfl (zcI _)) ?_
                            show zT G _ _ _ [zR b, zI u, zI ((aK (A 0 1023) (A 2)) 6), zI ((sAl (aK (A 0 1023) (A 2))) + 1), zI E, zI h, zI e, zI 0, zU, zU] _ _ _ _ _ _ _
                            have L301 : ∀ (N : Nat) (o : Int), (0 ≤ o) → (o ≤ sPk (aK (A 0 1023) (A 2)) u E e h) → (∀ j, 0 ≤ j → j < o → ¬ sOk (aK (A 0 1023) (A 2)) u E e h j) → ((sPk (aK (A 0 1023) (A 2)) u E e h - o).toNat) < N → zT G mX13_served 4 301 [zR b, zI u, zI ((aK (A 0 1023) (A 2)) 6), zI ((sAl (aK (A 0 1023) (A 2))) + 1), zI E, zI h, zI e, zI o, zU, zU] [] S mA 0 0 Q9 zNX := by
                              intro N
                              induction N with
                              | zero => intro o o0 o1 hq hN; exact absurd hN (Nat.not_lt_zero _)
                              | succ N ih301 =>
                                intro o o0 o1 hq hN
                                have hpc := fPc_b (a := o)
                                have hso := fSu_al hk o0 (show o ≤ (sAl (aK (A 0 1023) (A 2))) by omega)
                                have hor := fOr hhb.1 (by omega) o0 (by omega) hA9.1 (by omega) hhs hso
                                have hnx9 := ht (e + 1) (zor h o)
                                have hwb := fWs_b (o := o) (t := u * (e + 1)) hk (n := ((aK (A 0 1023) (A 2)) 6)) (by omega) (by omega)
                                refine zT.iload 7 dX13_served_301 rfl ?_
                                refine zT.iload 5 dX13_served_303 rfl ?_
                                refine zT.iand dX13_served_305 ?_
                                refine zT.if_ne (tgt := 372) dX13_served_306 (by decide) (by first | assumption | exact zq_i _ | exact zand_i _ _ | exact zor_i _ _ | exact zN _ | omega) (fun c306 => ?_) (fun c306 => ?_)
                                · have hnk : ¬ sOk (aK (A 0 1023) (A 2)) u E e h o := fun z => by
                                                                      obtain ⟨z1, z2, z3⟩ := z
                                                                      first
                                                                        | exact absurd z1 (by assumption)
                                                                        | omega
                                                                        | (rw [← hnx8, ← hcu] at z3; exact absurd z3 (by assumption))
                                  have hno : o + 1 ≤ sPk (aK (A 0 1023) (A 2)) u E e h := by
                                                                      have hne : o ≠ sPk (aK (A 0 1023) (A 2)) u E e h := fun z => hnk (by rw [z]; exact hpk.2.2)
                                                                      omega
                                  have hnq := zal_s hq hnk
                                  refine zT.iinc 7 dX13_served_372 rfl (by decide) (zpre1 rfl (zcI _)) ?_
                                  show zT G _ _ _ [zR b, zI u, zI ((aK (A 0 1023) (A 2)) 6), zI ((sAl (aK (A 0 1023) (A 2))) + 1), zI E, zI h, zI e, zI (o + 1), zU, zU] _ _ _ _ _ _ _
                                  refine zT.goto (tgt := 301) dX13_served_375 (by decide) ?_
                                  exact ih301 _ (by omega) (by exact hno) (by exact hnq) (by omega)
                                · refine zT.iload 7 dX13_served_309 rfl ?_
                                  refine zT.callS (M' := mX13_bits) [zI o] [] dX13_served_311 kX13_413 rfl rfl (C_X13_bits (by omega) (by omega)) (by decide) (k' := 0) (n' := 0) (by omega) (by omega) (by decide) (zdk (v := some (zI (fPc o))) ?_) (fun _ _ _ _ h => h.elim)
                                  show zT G _ _ _ _ [zI (fPc o)] _ _ _ _ _ _
                                  refine zT.aload_n 0 dX13_served_314 rfl rfl ?_
                                  refine zT.getF dX13_served_315 fX13_13 rfl (zMod.k hb) (j := 14) (by decide) rfl (zMod.f1014 hb) ?_
                                  refine zT.iconst dX13_served_318 ?_
                                  refine zT.iald dX13_served_319 (zMod.a1014 hb) (by first | assumption | exact zq_i _ | exact zand_i _ _ | exact zor_i _ _ | exact zN _ | omega) (by rw [(zMod.n1014 hb)]; first | assumption | exact zq_i _ | exact zand_i _ _ | exact zor_i _ _ | exact zN _ | omega) (fun z319 => ?_)
                                  have r319 : mA (b + 2) 0 = m2 (b + 2) 0 := by rw [hz _ _ (by omega) (by omega) (by omega) (by omega)]
                                  rw [r319] at z319 ⊢
                                  rw [show m2 (b + 2) 0 = (aK (A 0 1023) (A 2)) 0 from hK0]
                                  show zT G _ _ _ _ [zI ((aK (A 0 1023) (A 2)) 0), zI (fPc o)] _ _ _ _ _ _
                                  refine zT.ic_gt (tgt := 372) dX13_served_320 (by decide) (by first | assumption | exact zq_i _ | exact zand_i _ _ | exact zor_i _ _ | exact zN _ | omega) (by first | assumption | exact zq_i _ | exact zand_i _ _ | exact zor_i _ _ | exact zN _ | omega) (fun c320 => ?_) (fun c320 => ?_)
                                  · have hnk : ¬ sOk (aK (A 0 1023) (A 2)) u E e h o := fun z => by
                                                                          obtain ⟨z1, z2, z3⟩ := z
                                                                          first
                                                                            | exact absurd z1 (by assumption)
                                                                            | omega
                                                                            | (rw [← hnx8, ← hcu] at z3; exact absurd z3 (by assumption))
                                    have hno : o + 1 ≤ sPk (aK (A 0 1023) (A 2)) u E e h := by
                                                                          have hne : o ≠ sPk (aK (A 0 1023) (A 2)) u E e h := fun z => hnk (by rw [z]; exact hpk.2.2)
                                                                          omega
                                    have hnq := zal_s hq hnk
                                    refine zT.iinc 7 dX13_served_372 rfl (by decide) (zpre1 rfl (zcI _)) ?_
                                    show zT G _ _ _ [zR b, zI u, zI ((aK (A 0 1023) (A 2)) 6), zI ((sAl (aK (A 0 1023) (A 2))) + 1), zI E, zI h, zI e, zI (o + 1), zU, zU] _ _ _ _ _ _ _
                                    refine zT.goto (tgt := 301) dX13_served_375 (by decide) ?_
                                    exact ih301 _ (by omega) (by exact hno) (by exact hnq) (by omega)
                                  · have hnx8 := hnx9 (by omega) (by omega) hor.1 hor.2.1
                                    have hnb := sTb_b (u := u) (E := E) hk (E - (e + 1)).toNat (zor h o) hor.1 (by omega) hor.2.2
                                    have hcb := sTb_b (u := u) (E := E) hk (E - e).toNat h hhb.1 (by omega) hhs
                                    rw [← hnx8] at hnb
                                    rw [← hcu] at hcb
                                    refine zT.aload_n 0 dX13_served_323 rfl rfl ?_
                                    refine zT.iload 7 dX13_served_324 rfl ?_
                                    refine zT.iload_n 1 dX13_served_326 rfl rfl ?_
                                    refine zT.iload 6 dX13_served_327 rfl ?_
                                    refine zT.iconst dX13_served_329 ?_
                                    refine zT.iadd dX13_served_330 ?_
                                    refine zT.imul dX13_served_331 ?_
                                    refine zT.callV (M' := mX13_worthOfSet) (b := b) [zI o, zI (u * (e + 1))] [] dX13_served_332 kX13_416 rfl rfl (ci := 10) (r := (RX13, TX13, 62)) rfl (zMod.k hb) (C_X13_worthOfSet hb hkA hk (by omega) (by omega)) (by decide) (k' := 0) (n' := 0) (by omega) (by omega) (by decide) (zdk (v := some (zI (fWs (aK (A 0 1023) (A 2)) o (u * (e + 1)) ((aK (A 0 1023) (A 2)) 6)))) ?_) (fun _ _ _ _ h => h.elim)
                                    show zT G _ _ _ _ [zI (fWs (aK (A 0 1023) (A 2)) o (u * (e + 1)) ((aK (A 0 1023) (A 2)) 6))] _ _ _ _ _ _
                                    refine zT.aload_n 0 dX13_served_335 rfl rfl ?_
                                    refine zT.getF dX13_served_336 fX13_98 rfl (zMod.k hb) (j := 47) (by decide) rfl (zMod.f1047 hb) ?_
                                    refine zT.sipush dX13_served_339 ?_
                                    refine zT.iload 6 dX13_served_342 rfl ?_
                                    refine zT.iconst dX13_served_344 ?_
                                    refine zT.iadd dX13_served_345 ?_
                                    refine zT.imul dX13_served_346 ?_
                                    refine zT.iload 5 dX13_served_347 rfl ?_
                                    refine zT.iload 7 dX13_served_349 rfl ?_
                                    refine zT.ior dX13_served_351 ?_
                                    refine zT.iadd dX13_served_352 ?_
                                    refine zT.iald dX13_served_353 (zMod.a1047 hb) (by first | assumption | exact zq_i _ | exact zand_i _ _ | exact zor_i _ _ | exact zN _ | omega) (by rw [(zMod.n1047 hb)]; first | assumption | exact zq_i _ | exact zand_i _ _ | exact zor_i _ _ | exact zN _ | omega) (fun z353 => ?_)
                                    refine zT.iadd dX13_served_354 ?_
                                    refine zT.aload_n 0 dX13_served_355 rfl rfl ?_
                                    refine zT.getF dX13_served_356 fX13_98 rfl (zMod.k hb) (j := 47) (by decide) rfl (zMod.f1047 hb) ?_
                                    refine zT.sipush dX13_served_359 ?_
                                    refine zT.iload 6 dX13_served_362 rfl ?_
                                    refine zT.imul dX13_served_364 ?_
                                    refine zT.iload 5 dX13_served_365 rfl ?_
                                    refine zT.iadd dX13_served_367 ?_
                                    refine zT.iald dX13_served_368 (zMod.a1047 hb) (by first | assumption | exact zq_i _ | exact zand_i _ _ | exact zor_i _ _ | exact zN _ | omega) (by rw [(zMod.n1047 hb)]; first | assumption | exact zq_i _ | exact zand_i _ _ | exact zor_i _ _ | exact zN _ | omega) (fun z368 => ?_)
                                    refine zT.ic_eq (tgt := 378) dX13_served_369 (by decide) (by first | assumption | exact zq_i _ | exact zand_i _ _ | exact zor_i _ _ | exact zN _ | omega) (by first | assumption | exact zq_i _ | exact zand_i _ _ | exact zor_i _ _ | exact zN _ | omega) (fun c369 => ?_) (fun c369 => ?_)
                                    · have hok : sOk (aK (A 0 1023) (A 2)) u E e h o := ⟨by assumption, by omega, by rw [← hnx8, ← hcu]; assumption⟩
                                      have ho9 : o = sPk (aK (A 0 1023) (A 2)) u E e h := by unfold sPk; rw [zfi_t hq o0 (by omega) hok]
                                      have het : ((e.toNat : Nat) : Int) = e := by omega
                                      refine zT.iconst dX13_served_378 ?_
                                      refine zT.istore 8 dX13_served_379 (by decide) (zpre1 rfl (zcI _)) ?_
                                      show zT G _ _ _ [zR b, zI u, zI ((aK (A 0 1023) (A 2)) 6), zI ((sAl (aK (A 0 1023) (A 2))) + 1), zI E, zI h, zI e, zI o, zI 0, zU] _ _ _ _ _ _ _
                                      have L381 : ∀ (N : Nat) (mB : zMm) (g : Int), (zHv b m2 mB) → (∀ r w, 0 ≤ r → r ≤ E → 0 ≤ w → w ≤ (sAl (aK (A 0 1023) (A 2))) → mB (b + 28) (256 * r + w) = sTb (aK (A 0 1023) (A 2)) u E (E - r).toNat w) → (mB b 1049 = ((aK (A 0 1023) (A 2)) 6)) → (0 ≤ g) → (g ≤ ((aK (A 0 1023) (A 2)) 6)) → (∀ j, 0 ≤ j → j < ((aK (A 0 1023) (A 2)) 6) → mB (b + 29) j = if j < g then sAt (aK (A 0 1023) (A 2)) u E j (e + 1).toNat else sAt (aK (A 0 1023) (A 2)) u E j e.toNat) → ((((aK (A 0 1023) (A 2)) 6) - g).toNat) < N → zT G mX13_served 4 381 [zR b, zI u, zI ((aK (A 0 1023) (A 2)) 6), zI ((sAl (aK (A 0 1023) (A 2))) + 1), zI E, zI h, zI e, zI o, zI g, zU] [] S mB 0 0 Q9 zNX := by
                                        intro N
                                        induction N with
                                        | zero => intro mB g hz ht h32 g0 g1 hs hN; exact absurd hN (Nat.not_lt_zero _)
                                        | succ N ih381 =>
                                          intro mB g hz ht h32 g0 g1 hs hN
                                          refine zT.iload 8 dX13_served_381 rfl ?_
                                          refine zT.iload_n 2 dX13_served_383 rfl rfl ?_
                                          refine zT.ic_ge (tgt := 416) dX13_served_384 (by decide) (by first | assumption | exact zq_i _ | exact zand_i _ _ | exact zor_i _ _ | exact zN _ | omega) (by first | assumption | exact zq_i _ | exact zand_i _ _ | exact zor_i _ _ | exact zN _ | omega) (fun c384 => ?_) (fun c384 => ?_)
                                          · refine zT.iload 5 dX13_served_416 rfl ?_
                                            refine zT.iload 7 dX13_served_418 rfl ?_
                                            refine zT.ior dX13_served_420 ?_
                                            refine zT.istore 5 dX13_served_421 (by decide) (zpre1 rfl (zcI _)) ?_
                                            show zT G _ _ _ [zR b, zI u, zI ((aK (A 0 1023) (A 2)) 6), zI ((sAl (aK (A 0 1023) (A 2))) + 1), zI E, zI (zor h o), zI e, zI o, zI g, zU] _ _ _ _ _ _ _
                                            refine zT.iinc 6 dX13_served_423 rfl (by decide) (zpre1 rfl (zcI _)) ?_
                                            show zT G _ _ _ [zR b, zI u, zI ((aK (A 0 1023) (A 2)) 6), zI ((sAl (aK (A 0 1023) (A 2))) + 1), zI E, zI (zor h o), zI (e + 1), zI o, zI g, zU] _ _ _ _ _ _ _
                                            refine zT.goto (tgt := 291) dX13_served_426 (by decide) ?_
                                            refine zT.loc (V' := [zR b, zI u, zI ((aK (A 0 1023) (A 2)) 6), zI ((sAl (aK (A 0 1023) (A 2))) + 1), zI E, zI (zor h o), zI (e + 1), zU, zU, zU]) ?_ ⟨Or.inr rfl, Or.inr rfl, Or.inr rfl, Or.inr rfl, Or.inr rfl, Or.inr rfl, Or.inr rfl, Or.inl rfl, Or.inl rfl, Or.inr rfl, trivial⟩
                                            exact ih291 _ _ _ (by exact hz) (by exact ht) (by exact h32) (by omega) (by omega) (by
                                                rw [show (e + 1).toNat = e.toNat + 1 by omega]
                                                show _ = zor (sHd (aK (A 0 1023) (A 2)) u E e.toNat) (sPk (aK (A 0 1023) (A 2)) u E ((e.toNat : Nat) : Int) (sHd (aK (A 0 1023) (A 2)) u E e.toNat))
                                                rw [het, ← hh, ← ho9]) (by exact fun j a c => by rw [hs j a c, if_pos (by omega)]) (by omega)
                                          · refine zT.iload 7 dX13_served_387 rfl ?_
                                            refine zT.iload 8 dX13_served_389 rfl ?_
                                            refine zT.callS (M' := mX13_has) [zI o, zI g] [] dX13_served_391 kX13_220 rfl rfl (C_X13_has (by first | assumption | exact zq_i _ | exact zand_i _ _ | exact zor_i _ _ | exact zN _ | omega) (by first | assumption | exact zq_i _ | exact zand_i _ _ | exact zor_i _ _ | exact zN _ | omega) (by first | assumption | exact zq_i _ | exact zand_i _ _ | exact zor_i _ _ | exact zN _ | omega)) (by decide) (k' := 0) (n' := 0) (by omega) (by omega) (by decide) (zdk (v := some (zI (zq (zbit o g)))) ?_) (fun _ _ _ _ h => h.elim)
                                            show zT G _ _ _ _ [zI (zq (zbit o g))] _ _ _ _ _ _
                                            refine zT.if_eqB (tgt := 410) dX13_served_394 (by decide) (fun c394 => ?_) (fun c394 => ?_)
                                            · refine zT.iinc 8 dX13_served_410 rfl (by decide) (zpre1 rfl (zcI _)) ?_
                                              show zT G _ _ _ [zR b, zI u, zI ((aK (A 0 1023) (A 2)) 6), zI ((sAl (aK (A 0 1023) (A 2))) + 1), zI E, zI h, zI e, zI o, zI (g + 1), zU] _ _ _ _ _ _ _
                                              refine zT.goto (tgt := 381) dX13_served_413 (by decide) ?_
                                              exact ih381 _ _ (by exact hz) (by exact ht) (by exact h32) (by omega) (by omega) (by
                                                  exact fun j j0 j1 => by
                                                    have e9 : sAt (aK (A 0 1023) (A 2)) u E g (e + 1).toNat = zite (zbit o g) (u * (e + 1)) (sAt (aK (A 0 1023) (A 2)) u E g e.toNat) := by
                                                      rw [show (e + 1).toNat = e.toNat + 1 by omega]
                                                      show zite (zbit (sPk (aK (A 0 1023) (A 2)) u E ((e.toNat : Nat) : Int) (sHd (aK (A 0 1023) (A 2)) u E e.toNat)) g) (u * (((e.toNat : Nat) : Int) + 1)) _ = _
                                                      rw [het, ← hh, ← ho9]
                                                    by_cases q : j = g
                                                    · rw [q, if_pos (by omega), e9, zite_f (by assumption), hs g g0 (by omega), if_neg (by omega)]
                                                    · rw [hs j j0 j1]
                                                      by_cases z : j < g
                                                      · rw [if_pos z, if_pos (by omega)]
                                                      · rw [if_neg z, if_neg (by omega)]) (by omega)
                                            · refine zT.aload_n 0 dX13_served_397 rfl rfl ?_
                                              refine zT.getF dX13_served_398 fX13_101 rfl (zMod.k hb) (j := 48) (by decide) rfl (zMod.f1048 hb) ?_
                                              refine zT.iload 8 dX13_served_401 rfl ?_
                                              refine zT.iload_n 1 dX13_served_403 rfl rfl ?_
                                              refine zT.iload 6 dX13_served_404 rfl ?_
                                              refine zT.iconst dX13_served_406 ?_
                                              refine zT.iadd dX13_served_407 ?_
                                              refine zT.imul dX13_served_408 ?_
                                              refine zT.iast dX13_served_409 (zMod.a1048 hb) (by first | assumption | exact zq_i _ | exact zand_i _ _ | exact zor_i _ _ | exact zN _ | omega) (by rw [(zMod.n1048 hb)]; first | assumption | exact zq_i _ | exact zand_i _ _ | exact zor_i _ _ | exact zN _ | omega) (by first | assumption | exact zq_i _ | exact zand_i _ _ | exact zor_i _ _ | exact zN _ | omega) ?_
                                              obtain ⟨m4, em4⟩ : ∃ z, z = zup mB (b + 29) g (u * (e + 1)) := ⟨_, rfl⟩
                                              rw [← em4]
                                              refine zT.iinc 8 dX13_served_410 rfl (by decide) (zpre1 rfl (zcI _)) ?_
                                              show zT G _ _ _ [zR b, zI u, zI ((aK (A 0 1023) (A 2)) 6), zI ((sAl (aK (A 0 1023) (A 2))) + 1), zI E, zI h, zI e, zI o, zI (g + 1), zU] _ _ _ _ _ _ _
                                              refine zT.goto (tgt := 381) dX13_served_413 (by decide) ?_
                                              exact ih381 _ _ (by rw [em4]; exact hz.up (by omega)) (by exact fun r w r0 r1 w0 w1 => by rw [em4, zup_ne (by omega)]; exact ht r w r0 r1 w0 w1) (by rw [em4, zup_ne (by omega)]; exact h32) (by omega) (by omega) (by
                                                  exact fun j j0 j1 => by
                                                    have e9 : sAt (aK (A 0 1023) (A 2)) u E g (e + 1).toNat = zite (zbit o g) (u * (e + 1)) (sAt (aK (A 0 1023) (A 2)) u E g e.toNat) := by
                                                      rw [show (e + 1).toNat = e.toNat + 1 by omega]
                                                      show zite (zbit (sPk (aK (A 0 1023) (A 2)) u E ((e.toNat : Nat) : Int) (sHd (aK (A 0 1023) (A 2)) u E e.toNat)) g) (u * (((e.toNat : Nat) : Int) + 1)) _ = _
                                                      rw [het, ← hh, ← ho9]
                                                    by_cases q : j = g
                                                    · rw [q, em4, zup_at, if_pos (by omega), e9, zite_t (by assumption)]
                                                    · rw [em4, zup_ne (by omega), hs j j0 j1]
                                                      by_cases z : j < g
                                                      · rw [if_pos z, if_pos (by omega)]
                                                      · rw [if_neg z, if_neg (by omega)]) (by omega)
                                      exact L381 _ _ _ (by exact hz) (by exact ht) (by exact h32) (by first | assumption | exact zq_i _ | exact zand_i _ _ | exact zor_i _ _ | exact zN _ | omega) (by first | assumption | exact zq_i _ | exact zand_i _ _ | exact zor_i _ _ | exact zN _ | omega) (by exact fun j a c => by rw [if_neg (by omega)]; exact hs j a c) (Nat.lt_succ_self _)
                                    · have hnk : ¬ sOk (aK (A 0 1023) (A 2)) u E e h o := fun z => by
                                                                              obtain ⟨z1, z2, z3⟩ := z
                                                                              first
                                                                                | exact absurd z1 (by assumption)
                                                                                | omega
                                                                                | (rw [← hnx8, ← hcu] at z3; exact absurd z3 (by assumption))
                                      have hno : o + 1 ≤ sPk (aK (A 0 1023) (A 2)) u E e h := by
                                                                              have hne : o ≠ sPk (aK (A 0 1023) (A 2)) u E e h := fun z => hnk (by rw [z]; exact hpk.2.2)
                                                                              omega
                                      have hnq := zal_s hq hnk
                                      refine zT.iinc 7 dX13_served_372 rfl (by decide) (zpre1 rfl (zcI _)) ?_
                                      show zT G _ _ _ [zR b, zI u, zI ((aK (A 0 1023) (A 2)) 6), zI ((sAl (aK (A 0 1023) (A 2))) + 1), zI E, zI h, zI e, zI (o + 1), zU, zU] _ _ _ _ _ _ _
                                      refine zT.goto (tgt := 301) dX13_served_375 (by decide) ?_
                                      exact ih301 _ (by omega) (by exact hno) (by exact hnq) (by omega)
                            exact L301 _ _ (by first | assumption | exact zq_i _ | exact zand_i _ _ | exact zor_i _ _ | exact zN _ | omega) (by exact hpk.1) (by exact fun j a c => by omega) (Nat.lt_succ_self _)
                      exact L291 _ _ _ _ (by rw [em3]; exact hz.up (by omega)) (by exact fun r w r0 r1 w0 w1 => by rw [em3, zup_ne (by omega)]; exact ht r w r0 r1 w0 w1) (by rw [em3, zup_at]) (by first | assumption | exact zq_i _ | exact zand_i _ _ | exact zor_i _ _ | exact zN _ | omega) (by first | assumption | exact zq_i _ | exact zand_i _ _ | exact zor_i _ _ | exact zN _ | omega) (by rfl) (by exact fun g a c => by rw [em3, zup_ne (by omega)]; exact hs g a (by omega)) (Nat.lt_succ_self _)
                    · refine zT.aload_n 0 dX13_served_266 rfl rfl ?_
                      refine zT.getF dX13_served_267 fX13_101 rfl (zMod.k hb) (j := 48) (by decide) rfl (zMod.f1048 hb) ?_
                      refine zT.iload 5 dX13_served_270 rfl ?_
                      refine zT.iconst dX13_served_272 ?_
                      refine zT.iast dX13_served_273 (zMod.a1048 hb) (by first | assumption | exact zq_i _ | exact zand_i _ _ | exact zor_i _ _ | exact zN _ | omega) (by rw [(zMod.n1048 hb)]; first | assumption | exact zq_i _ | exact zand_i _ _ | exact zor_i _ _ | exact zN _ | omega) (by first | assumption | exact zq_i _ | exact zand_i _ _ | exact zor_i _ _ | exact zN _ | omega) ?_
                      obtain ⟨m5, em5⟩ : ∃ z, z = zup mA (b + 29) g (-1) := ⟨_, rfl⟩
                      rw [← em5]
                      refine zT.iinc 5 dX13_served_274 rfl (by decide) (zpre1 rfl (zcI _)) ?_
                      show zT G _ _ _ [zR b, zI u, zI ((aK (A 0 1023) (A 2)) 6), zI ((sAl (aK (A 0 1023) (A 2))) + 1), zI E, zI (g + 1), zU, zU, zU, zU] _ _ _ _ _ _ _
                      refine zT.goto (tgt := 260) dX13_served_277 (by decide) ?_
                      exact ih260 _ _ (by rw [em5]; exact hz.up (by omega)) (by exact fun r w r0 r1 w0 w1 => by rw [em5, zup_ne (by omega)]; exact ht r w r0 r1 w0 w1) (by omega) (by omega) (by
                          exact fun j j0 j1 => by
                            by_cases q : j = g
                            · rw [q, em5, zup_at]
                            · rw [em5, zup_ne (by omega)]; exact hs j j0 (by omega)) (by omega)
                exact L260 _ _ _ (by exact hz) (by exact fun r w r0 r1 w0 w1 => ht r w (by omega) r1 w0 w1) (by first | assumption | exact zq_i _ | exact zand_i _ _ | exact zor_i _ _ | exact zN _ | omega) (by first | assumption | exact zq_i _ | exact zand_i _ _ | exact zor_i _ _ | exact zN _ | omega) (by exact fun j a c => by omega) (Nat.lt_succ_self _)
              · refine zT.iconst dX13_served_81 ?_
                refine zT.istore 6 dX13_served_82 (by decide) (zpre1 rfl (zcI _)) ?_
                show zT G _ _ _ [zR b, zI u, zI ((aK (A 0 1023) (A 2)) 6), zI ((sAl (aK (A 0 1023) (A 2))) + 1), zI E, zI e, zI 0, zU, zU, zU] _ _ _ _ _ _ _
                have L84 : ∀ (N : Nat) (mB : zMm) (t : Int), (zHv b m2 mB) → (0 ≤ t) → (t ≤ (sAl (aK (A 0 1023) (A 2))) + 1) → (∀ r w, e < r → r ≤ E → 0 ≤ w → w ≤ (sAl (aK (A 0 1023) (A 2))) → mB (b + 28) (256 * r + w) = sTb (aK (A 0 1023) (A 2)) u E (E - r).toNat w) → (∀ o, 0 ≤ o → o < t → mB (b + 30) o = if fPc o ≤ (aK (A 0 1023) (A 2)) 0 then fWs (aK (A 0 1023) (A 2)) o (u * (e + 1)) ((aK (A 0 1023) (A 2)) 6) else -1) → (((sAl (aK (A 0 1023) (A 2))) + 1 - t).toNat) < N → zT G mX13_served 4 84 [zR b, zI u, zI ((aK (A 0 1023) (A 2)) 6), zI ((sAl (aK (A 0 1023) (A 2))) + 1), zI E, zI e, zI t, zU, zU, zU] [] S mB 0 0 Q9 zNX := by
                  intro N
                  induction N with
                  | zero => intro mB t hz t0 t1 ht hs hN; exact absurd hN (Nat.not_lt_zero _)
                  | succ N ih84 =>
                    intro mB t hz t0 t1 ht hs hN
                    have hpc := fPc_b (a := t)
                    have hut := zmulb (a := u) (A := 40) (b := e + 1) (B := 341) (by omega) (by omega) (by omega) (by omega)
                    have hkB : zMK mB b (aK (A 0 1023) (A 2)) := fun i i0 i1 => by rw [hz _ _ (by omega) (by omega) (by omega) (by omega)]; exact ym2.2 i i0 i1
                    have hwb := fWs_b (o := t) (t := u * (e + 1)) hk (n := ((aK (A 0 1023) (A 2)) 6)) (by omega) (by omega)
                    have hK0 := ym2.2 0 (by omega) (by omega)
                    refine zT.iload 6 dX13_served_84 rfl ?_
                    refine zT.iload_n 3 dX13_served_86 rfl rfl ?_
                    refine zT.ic_ge (tgt := 133) dX13_served_87 (by decide) (by first | assumption | exact zq_i _ | exact zand_i _ _ | exact zor_i _ _ | exact zN _ | omega) (by first | assumption | exact zq_i _ | exact zand_i _ _ | exact zor_i _ _ | exact zN _ | omega) (fun c87 => ?_) (fun c87 => ?_)
                    · refine zT.iconst dX13_served_133 ?_
                      refine zT.istore 6 dX13_served_134 (by decide) (zpre1 rfl (zcI _)) ?_
                      show zT G _ _ _ [zR b, zI u, zI ((aK (A 0 1023) (A 2)) 6), zI ((sAl (aK (A 0 1023) (A 2))) + 1), zI E, zI e, zI 0, zU, zU, zU] _ _ _ _ _ _ _
                      have L136 : ∀ (N : Nat) (mC : zMm) (h : Int), (zHv b m2 mC) → (0 ≤ h) → (h ≤ (sAl (aK (A 0 1023) (A 2))) + 1) → (∀ r w, e < r → r ≤ E → 0 ≤ w → w ≤ (sAl (aK (A 0 1023) (A 2))) → mC (b + 28) (256 * r + w) = sTb (aK (A 0 1023) (A 2)) u E (E - r).toNat w) → (∀ o, 0 ≤ o → o < (sAl (aK (A 0 1023) (A 2))) + 1 → mC (b + 30) o = if fPc o ≤ (aK (A 0 1023) (A 2)) 0 then fWs (aK (A 0 1023) (A 2)) o (u * (e + 1)) ((aK (A 0 1023) (A 2)) 6) else -1) → (∀ w, 0 ≤ w → w < h → mC (b + 28) (256 * e + w) = sTb (aK (A 0 1023) (A 2)) u E (E - e).toNat w) → (((sAl (aK (A 0 1023) (A 2))) + 1 - h).toNat) < N → zT G mX13_served 4 136 [zR b, zI u, zI ((aK (A 0 1023) (A 2)) 6), zI ((sAl (aK (A 0 1023) (A 2))) + 1), zI E, zI e, zI h, zU, zU, zU] [] S mC 0 0 Q9 zNX := by
                        intro N
                        induction N with
                        | zero => intro mC h hz h0 h1 ht hs hu9 hN; exact absurd hN (Nat.not_lt_zero _)
                        | succ N ih136 =>
                          intro mC h hz h0 h1 ht hs hu9 hN
                          refine zT.iload 6 dX13_served_136 rfl ?_
                          refine zT.iload_n 3 dX13_served_138 rfl rfl ?_
                          refine zT.ic_ge (tgt := 251) dX13_served_139 (by decide) (by first | assumption | exact zq_i _ | exact zand_i _ _ | exact zor_i _ _ | exact zN _ | omega) (by first | assumption | exact zq_i _ | exact zand_i _ _ | exact zor_i _ _ | exact zN _ | omega) (fun c139 => ?_) (fun c139 => ?_)
                          · refine zT.iinc 5 dX13_served_251 rfl (by decide) (zpre1 rfl (zcI _)) ?_
                            show zT G _ _ _ [zR b, zI u, zI ((aK (A 0 1023) (A 2)) 6), zI ((sAl (aK (A 0 1023) (A 2))) + 1), zI E, zI (e + (-1)), zI h, zU, zU, zU] _ _ _ _ _ _ _
                            refine zT.goto (tgt := 76) dX13_served_254 (by decide) ?_
                            refine zT.loc (V' := [zR b, zI u, zI ((aK (A 0 1023) (A 2)) 6), zI ((sAl (aK (A 0 1023) (A 2))) + 1), zI E, zI (e + (-1)), zU, zU, zU, zU]) ?_ ⟨Or.inr rfl, Or.inr rfl, Or.inr rfl, Or.inr rfl, Or.inr rfl, Or.inr rfl, Or.inl rfl, Or.inr rfl, Or.inr rfl, Or.inr rfl, trivial⟩
                            exact ih76 _ _ (by exact hz) (by omega) (by omega) (by
                                exact fun r w r0 r1 w0 w1 => by
                                  by_cases q : r = e
                                  · rw [q]; exact hu9 w w0 (by omega)
                                  · exact ht r w (by omega) r1 w0 w1) (by omega)
                          · obtain ⟨j, hj⟩ : ∃ j : Nat, (E - e).toNat = j + 1 := ⟨(E - e).toNat - 1, by omega⟩
                            have ej : (E - (e + 1)).toNat = j := by omega
                            have ee : E - (j : Int) = e + 1 := by omega
                            have hhs := fSu_al hk h0 (show h ≤ (sAl (aK (A 0 1023) (A 2))) by omega)
                            have hfr := fFr (s := h) (g := (sAl (aK (A 0 1023) (A 2)))) h0 (by omega) hA9.1 (by omega)
                            obtain ⟨fr, hfr0⟩ : ∃ z, z = zand (sAl (aK (A 0 1023) (A 2))) (zxor h (-1)) := ⟨_, rfl⟩
                            rw [← hfr0] at hfr
                            have hff : fSu fr fr := by unfold fSu; obtain ⟨z, hz9⟩ := Int.eq_ofNat_of_zero_le hfr.1; rw [hz9, zand_nat (by omega) (by omega), Nat.and_self]
                            have hRb := sTb_b (u := u) (E := E) hk (j + 1) h h0 (by omega) hhs
                            obtain ⟨R, hR9⟩ : ∃ z, z = sTb (aK (A 0 1023) (A 2)) u E (j + 1) h := ⟨_, rfl⟩
                            rw [← hR9] at hRb
                            have hR8 : sCh (fun o => fWs (aK (A 0 1023) (A 2)) o (u * (E - (j : Int))) ((aK (A 0 1023) (A 2)) 6) + sTb (aK (A 0 1023) (A 2)) u E j (zor h o)) ((aK (A 0 1023) (A 2)) 0) fr 1024 fr 0 = R := by rw [hR9, hfr0]; rfl
                            refine zT.iconst dX13_served_142 ?_
                            refine zT.istore 7 dX13_served_143 (by decide) (zpre1 rfl (zcI _)) ?_
                            show zT G _ _ _ [zR b, zI u, zI ((aK (A 0 1023) (A 2)) 6), zI ((sAl (aK (A 0 1023) (A 2))) + 1), zI E, zI e, zI h, zI 0, zU, zU] _ _ _ _ _ _ _
                            refine zT.iload_n 3 dX13_served_145 rfl rfl ?_
                            refine zT.iconst dX13_served_146 ?_
                            refine zT.isub dX13_served_147 ?_
                            rw [show ((sAl (aK (A 0 1023) (A 2))) + 1) - 1 = (sAl (aK (A 0 1023) (A 2))) by omega]
                            show zT G _ _ _ _ [zI (sAl (aK (A 0 1023) (A 2)))] _ _ _ _ _ _
                            refine zT.iload 6 dX13_served_148 rfl ?_
                            refine zT.iconst dX13_served_150 ?_
                            refine zT.ixor dX13_served_151 ?_
                            refine zT.iand dX13_served_152 ?_
                            rw [← hfr0]
                            show zT G _ _ _ _ [zI fr] _ _ _ _ _ _
                            refine zT.istore 8 dX13_served_153 (by decide) (zpre1 rfl (zcI _)) ?_
                            show zT G _ _ _ [zR b, zI u, zI ((aK (A 0 1023) (A 2)) 6), zI ((sAl (aK (A 0 1023) (A 2))) + 1), zI E, zI e, zI h, zI 0, zI fr, zU] _ _ _ _ _ _ _
                            refine zT.iload 8 dX13_served_155 rfl ?_
                            refine zT.istore 9 dX13_served_157 (by decide) (zpre1 rfl (zcI _)) ?_
                            show zT G _ _ _ [zR b, zI u, zI ((aK (A 0 1023) (A 2)) 6), zI ((sAl (aK (A 0 1023) (A 2))) + 1), zI E, zI e, zI h, zI 0, zI fr, zI fr] _ _ _ _ _ _ _
                            have L159 : ∀ (N : Nat) (o : Int) (a : Int) (q : Nat), (-1 ≤ o ∧ o < 1024) → (0 ≤ a ∧ a ≤ R) → ((o = -1 ∧ a = R) ∨ (0 ≤ o ∧ fSu o fr ∧ o < q ∧ sCh (fun o => fWs (aK (A 0 1023) (A 2)) o (u * (E - (j : Int))) ((aK (A 0 1023) (A 2)) 6) + sTb (aK (A 0 1023) (A 2)) u E j (zor h o)) ((aK (A 0 1023) (A 2)) 0) fr q o a = R)) → ((o + 1).toNat) < N → zT G mX13_served 4 159 [zR b, zI u, zI ((aK (A 0 1023) (A 2)) 6), zI ((sAl (aK (A 0 1023) (A 2))) + 1), zI E, zI e, zI h, zI a, zI fr, zI o] [] S mC 0 0 Q9 zNX := by
                              intro N
                              induction N with
                              | zero => intro o a q o0 a0 hT hN; exact absurd hN (Nat.not_lt_zero _)
                              | succ N ih159 =>
                                intro o a q o0 a0 hT hN
                                refine zT.iload 9 dX13_served_159 rfl ?_
                                refine zT.if_lt (tgt := 229) dX13_served_161 (by decide) (by first | assumption | exact zq_i _ | exact zand_i _ _ | exact zor_i _ _ | exact zN _ | omega) (fun c161 => ?_) (fun c161 => ?_)
                                · have hT9 : a = sTb (aK (A 0 1023) (A 2)) u E (j + 1) h := by rw [← hR9]; rcases hT with z | z; exact z.2; omega
                                  refine zT.aload_n 0 dX13_served_229 rfl rfl ?_
                                  refine zT.getF dX13_served_230 fX13_98 rfl (zMod.k hb) (j := 47) (by decide) rfl (zMod.f1047 hb) ?_
                                  refine zT.sipush dX13_served_233 ?_
                                  refine zT.iload 5 dX13_served_236 rfl ?_
                                  refine zT.imul dX13_served_238 ?_
                                  refine zT.iload 6 dX13_served_239 rfl ?_
                                  refine zT.iadd dX13_served_241 ?_
                                  refine zT.iload 7 dX13_served_242 rfl ?_
                                  refine zT.iast dX13_served_244 (zMod.a1047 hb) (by first | assumption | exact zq_i _ | exact zand_i _ _ | exact zor_i _ _ | exact zN _ | omega) (by rw [(zMod.n1047 hb)]; first | assumption | exact zq_i _ | exact zand_i _ _ | exact zor_i _ _ | exact zN _ | omega) (by first | assumption | exact zq_i _ | exact zand_i _ _ | exact zor_i _ _ | exact zN _ | omega) ?_
                                  obtain ⟨m6, em6⟩ : ∃ z, z = zup mC (b + 28) ((256 * e) + h) a := ⟨_, rfl⟩
                                  rw [← em6]
                                  refine zT.iinc 6 dX13_served_245 rfl (by decide) (zpre1 rfl (zcI _)) ?_
                                  show zT G _ _ _ [zR b, zI u, zI ((aK (A 0 1023) (A 2)) 6), zI ((sAl (aK (A 0 1023) (A 2))) + 1), zI E, zI e, zI (h + 1), zI a, zI fr, zI o] _ _ _ _ _ _ _
                                  refine zT.goto (tgt := 136) dX13_served_248 (by decide) ?_
                                  refine zT.loc (V' := [zR b, zI u, zI ((aK (A 0 1023) (A 2)) 6), zI ((sAl (aK (A 0 1023) (A 2))) + 1), zI E, zI e, zI (h + 1), zU, zU, zU]) ?_ ⟨Or.inr rfl, Or.inr rfl, Or.inr rfl, Or.inr rfl, Or.inr rfl, Or.inr rfl, Or.inr rfl, Or.inl rfl, Or.inl rfl, Or.inl rfl, trivial⟩
                                  exact ih136 _ _ (by rw [em6]; exact hz.up (by omega)) (by omega) (by omega) (by exact fun r w r0 r1 w0 w1 => by rw [em6, zup_ne (by omega)]; exact ht r w r0 r1 w0 w1) (by exact fun o o0 o1 => by rw [em6, zup_ne (by omega)]; exact hs o o0 o1) (by
                                      exact fun w w0 w1 => by
                                        by_cases q : w = h
                                        · rw [q, em6, zup_at, hj]; exact hT9
                                        · rw [em6, zup_ne (by omega)]; exact hu9 w w0 (by omega)) (by omega)
                                · obtain ⟨o1, hof, hoq, hT9⟩ : 0 ≤ o ∧ fSu o fr ∧ o < q ∧ sCh (fun o => fWs (aK (A 0 1023) (A 2)) o (u * (E - (j : Int))) ((aK (A 0 1023) (A 2)) 6) + sTb (aK (A 0 1023) (A 2)) u E j (zor h o)) ((aK (A 0 1023) (A 2)) 0) fr q o a = R := by rcases hT with z | z; omega; exact z
                                  obtain ⟨q, rfl⟩ : ∃ z, q = z + 1 := ⟨q - 1, by omega⟩
                                  have hsu := fSu_tr o1 o0.2 hfr.1 hfr.2.1 hA9.1 (by omega) hof hfr.2.2
                                  have hso := fSu_le o1 o0.2 hA9.1 (by omega) hsu
                                  have hor := fOr h0 (by omega) o1 o0.2 hA9.1 (by omega) hhs hsu
                                  have hnx9 := ht (e + 1) (zor h o) (by omega) (by omega) hor.1 hor.2.1
                                  rw [ej] at hnx9
                                  have hnb := sTb_b (u := u) (E := E) hk j (zor h o) hor.1 (by omega) hor.2.2
                                  have hwb := fWs_b (o := o) (t := u * (e + 1)) hk (n := ((aK (A 0 1023) (A 2)) 6)) (by omega) (by omega)
                                  have hjb : (j : Int) ≤ 341 := by omega
                                  have hsm := hs o o1 (by omega)
                                  have hm9 : (fPc o ≤ (aK (A 0 1023) (A 2)) 0 ∧ mC (b + 30) o = fWs (aK (A 0 1023) (A 2)) o (u * (e + 1)) ((aK (A 0 1023) (A 2)) 6)) ∨ (¬ fPc o ≤ (aK (A 0 1023) (A 2)) 0 ∧ mC (b + 30) o = -1) := by
                                                                      by_cases z : fPc o ≤ (aK (A 0 1023) (A 2)) 0
                                                                      · rw [if_pos z] at hsm; exact Or.inl ⟨z, hsm⟩
                                                                      · rw [if_neg z] at hsm; exact Or.inr ⟨z, hsm⟩
                                  refine zT.aload_n 0 dX13_served_164 rfl rfl ?_
                                  refine zT.getF dX13_served_165 fX13_104 rfl (zMod.k hb) (j := 50) (by decide) rfl (zMod.f1050 hb) ?_
                                  refine zT.iload 9 dX13_served_168 rfl ?_
                                  refine zT.iald dX13_served_170 (zMod.a1050 hb) (by first | assumption | exact zq_i _ | exact zand_i _ _ | exact zor_i _ _ | exact zN _ | omega) (by rw [(zMod.n1050 hb)]; first | assumption | exact zq_i _ | exact zand_i _ _ | exact zor_i _ _ | exact zN _ | omega) (fun z170 => ?_)
                                  refine zT.if_lt (tgt := 208) dX13_served_171 (by decide) (by first | assumption | exact zq_i _ | exact zand_i _ _ | exact zor_i _ _ | exact zN _ | omega) (fun c171 => ?_) (fun c171 => ?_)
                                  · have hif : (if fPc o ≤ (aK (A 0 1023) (A 2)) 0 then max a ((fun o => fWs (aK (A 0 1023) (A 2)) o (u * (E - (j : Int))) ((aK (A 0 1023) (A 2)) 6) + sTb (aK (A 0 1023) (A 2)) u E j (zor h o)) o) else a) = a := if_neg (by omega)
                                    refine zT.iload 9 dX13_served_208 rfl ?_
                                    refine zT.if_ne (tgt := 217) dX13_served_210 (by decide) (by first | assumption | exact zq_i _ | exact zand_i _ _ | exact zor_i _ _ | exact zN _ | omega) (fun c210 => ?_) (fun c210 => ?_)
                                    · rw [sCh_1 (by assumption), hif] at hT9
                                      have hnx := fNx (o := o) (f := fr) (by omega) o0.2 hfr.1 hfr.2.1
                                      have hT7 : (zand (o - 1) fr = -1 ∧ a = R) ∨ (0 ≤ zand (o - 1) fr ∧ fSu (zand (o - 1) fr) fr ∧ zand (o - 1) fr < (q : Int) ∧ sCh (fun o => fWs (aK (A 0 1023) (A 2)) o (u * (E - (j : Int))) ((aK (A 0 1023) (A 2)) 6) + sTb (aK (A 0 1023) (A 2)) u E j (zor h o)) ((aK (A 0 1023) (A 2)) 0) fr q (zand (o - 1) fr) a = R) := Or.inr ⟨hnx.1, hnx.2.2, by omega, hT9⟩
                                      have haR := (sCh_x (v := (fun o => fWs (aK (A 0 1023) (A 2)) o (u * (E - (j : Int))) ((aK (A 0 1023) (A 2)) 6) + sTb (aK (A 0 1023) (A 2)) u E j (zor h o))) (p := (aK (A 0 1023) (A 2)) 0) hfr.1 hfr.2.1 q (zand (o - 1) fr) a hnx.1 (by omega) hnx.2.2).2
                                      rw [hT9] at haR
                                      have ha7 : 0 ≤ a ∧ a ≤ R := ⟨by omega, haR⟩
                                      refine zT.iload 9 dX13_served_217 rfl ?_
                                      refine zT.iconst dX13_served_219 ?_
                                      refine zT.isub dX13_served_220 ?_
                                      refine zT.iload 8 dX13_served_221 rfl ?_
                                      refine zT.iand dX13_served_223 ?_
                                      refine zT.istore 9 dX13_served_224 (by decide) (zpre1 rfl (zcI _)) ?_
                                      show zT G _ _ _ [zR b, zI u, zI ((aK (A 0 1023) (A 2)) 6), zI ((sAl (aK (A 0 1023) (A 2))) + 1), zI E, zI e, zI h, zI a, zI fr, zI (zand (o - 1) fr)] _ _ _ _ _ _ _
                                      refine zT.goto (tgt := 159) dX13_served_226 (by decide) ?_
                                      exact ih159 _ _ q (by omega) (by exact ha7) (by exact hT7) (by omega)
                                    · rw [sCh_0 (by assumption), hif] at hT9
                                      have hT7 : ((-1 : Int) = -1 ∧ a = R) ∨ (0 ≤ (-1 : Int) ∧ fSu (-1) fr ∧ (-1 : Int) < q ∧ sCh (fun o => fWs (aK (A 0 1023) (A 2)) o (u * (E - (j : Int))) ((aK (A 0 1023) (A 2)) 6) + sTb (aK (A 0 1023) (A 2)) u E j (zor h o)) ((aK (A 0 1023) (A 2)) 0) fr q (-1) a = R) := Or.inl ⟨rfl, hT9⟩
                                      have ha7 : 0 ≤ a ∧ a ≤ R := ⟨by omega, by rw [hT9]; exact Int.le_refl _⟩
                                      refine zT.iconst dX13_served_213 ?_
                                      refine zT.goto (tgt := 224) dX13_served_214 (by decide) ?_
                                      refine zT.istore 9 dX13_served_224 (by decide) (zpre1 rfl (zcI _)) ?_
                                      show zT G _ _ _ [zR b, zI u, zI ((aK (A 0 1023) (A 2)) 6), zI ((sAl (aK (A 0 1023) (A 2))) + 1), zI E, zI e, zI h, zI a, zI fr, zI (-1)] _ _ _ _ _ _ _
                                      refine zT.goto (tgt := 159) dX13_served_226 (by decide) ?_
                                      exact ih159 _ _ q (by omega) (by exact ha7) (by exact hT7) (by omega)
                                  · refine zT.iload 7 dX13_served_174 rfl ?_
                                    refine zT.aload_n 0 dX13_served_176 rfl rfl ?_
                                    refine zT.getF dX13_served_177 fX13_104 rfl (zMod.k hb) (j := 50) (by decide) rfl (zMod.f1050 hb) ?_
                                    refine zT.iload 9 dX13_served_180 rfl ?_
                                    refine zT.iald dX13_served_182 (zMod.a1050 hb) (by first | assumption | exact zq_i _ | exact zand_i _ _ | exact zor_i _ _ | exact zN _ | omega) (by rw [(zMod.n1050 hb)]; first | assumption | exact zq_i _ | exact zand_i _ _ | exact zor_i _ _ | exact zN _ | omega) (fun z182 => ?_)
                                    refine zT.aload_n 0 dX13_served_183 rfl rfl ?_
                                    refine zT.getF dX13_served_184 fX13_98 rfl (zMod.k hb) (j := 47) (by decide) rfl (zMod.f1047 hb) ?_
                                    refine zT.sipush dX13_served_187 ?_
                                    refine zT.iload 5 dX13_served_190 rfl ?_
                                    refine zT.iconst dX13_served_192 ?_
                                    refine zT.iadd dX13_served_193 ?_
                                    refine zT.imul dX13_served_194 ?_
                                    refine zT.iload 6 dX13_served_195 rfl ?_
                                    refine zT.iload 9 dX13_served_197 rfl ?_
                                    refine zT.ior dX13_served_199 ?_
                                    refine zT.iadd dX13_served_200 ?_
                                    refine zT.iald dX13_served_201 (zMod.a1047 hb) (by first | assumption | exact zq_i _ | exact zand_i _ _ | exact zor_i _ _ | exact zN _ | omega) (by rw [(zMod.n1047 hb)]; first | assumption | exact zq_i _ | exact zand_i _ _ | exact zor_i _ _ | exact zN _ | omega) (fun z201 => ?_)
                                    rw [hnx9]
                                    show zT G _ _ _ _ [zI (sTb (aK (A 0 1023) (A 2)) u E j (zor h o)), zI (mC (b + 30) o), zI a] _ _ _ _ _ _
                                    refine zT.iadd dX13_served_202 ?_
                                    refine zT.callS (M' := mX13_most) [zI a, zI ((mC (b + 30) o) + (sTb (aK (A 0 1023) (A 2)) u E j (zor h o)))] [] dX13_served_203 kX13_318 rfl rfl (C_X13_most (by omega) (by omega)) (by decide) (k' := 0) (n' := 0) (by omega) (by omega) (by decide) (zdk (v := some (zI (max a ((mC (b + 30) o) + (sTb (aK (A 0 1023) (A 2)) u E j (zor h o)))))) ?_) (fun _ _ _ _ h => h.elim)
                                    show zT G _ _ _ _ [zI (max a ((mC (b + 30) o) + (sTb (aK (A 0 1023) (A 2)) u E j (zor h o))))] _ _ _ _ _ _
                                    refine zT.istore 7 dX13_served_206 (by decide) (zpre1 rfl (zcI _)) ?_
                                    show zT G _ _ _ [zR b, zI u, zI ((aK (A 0 1023) (A 2)) 6), zI ((sAl (aK (A 0 1023) (A 2))) + 1), zI E, zI e, zI h, zI (max a ((mC (b + 30) o) + (sTb (aK (A 0 1023) (A 2)) u E j (zor h o)))), zI fr, zI o] _ _ _ _ _ _ _
                                    have hif : (if fPc o ≤ (aK (A 0 1023) (A 2)) 0 then max a ((fun o => fWs (aK (A 0 1023) (A 2)) o (u * (E - (j : Int))) ((aK (A 0 1023) (A 2)) 6) + sTb (aK (A 0 1023) (A 2)) u E j (zor h o)) o) else a) = max a ((mC (b + 30) o) + (sTb (aK (A 0 1023) (A 2)) u E j (zor h o))) := by
                                                                          rw [if_pos (by omega)]
                                                                          show max a (fWs (aK (A 0 1023) (A 2)) o (u * (E - (j : Int))) ((aK (A 0 1023) (A 2)) 6) + sTb (aK (A 0 1023) (A 2)) u E j (zor h o)) = _
                                                                          rw [ee, show mC (b + 30) o = fWs (aK (A 0 1023) (A 2)) o (u * (e + 1)) ((aK (A 0 1023) (A 2)) 6) by omega]
                                    refine zT.iload 9 dX13_served_208 rfl ?_
                                    refine zT.if_ne (tgt := 217) dX13_served_210 (by decide) (by first | assumption | exact zq_i _ | exact zand_i _ _ | exact zor_i _ _ | exact zN _ | omega) (fun c210 => ?_) (fun c210 => ?_)
                                    · rw [sCh_1 (by assumption), hif] at hT9
                                      have hnx := fNx (o := o) (f := fr) (by omega) o0.2 hfr.1 hfr.2.1
                                      have hT7 : (zand (o - 1) fr = -1 ∧ max a ((mC (b + 30) o) + (sTb (aK (A 0 1023) (A 2)) u E j (zor h o))) = R) ∨ (0 ≤ zand (o - 1) fr ∧ fSu (zand (o - 1) fr) fr ∧ zand (o - 1) fr < (q : Int) ∧ sCh (fun o => fWs (aK (A 0 1023) (A 2)) o (u * (E - (j : Int))) ((aK (A 0 1023) (A 2)) 6) + sTb (aK (A 0 1023) (A 2)) u E j (zor h o)) ((aK (A 0 1023) (A 2)) 0) fr q (zand (o - 1) fr) (max a ((mC (b + 30) o) + (sTb (aK (A 0 1023) (A 2)) u E j (zor h o)))) = R) := Or.inr ⟨hnx.1, hnx.2.2, by omega, hT9⟩
                                      have haR := (sCh_x (v := (fun o => fWs (aK (A 0 1023) (A 2)) o (u * (E - (j : Int))) ((aK (A 0 1023) (A 2)) 6) + sTb (aK (A 0 1023) (A 2)) u E j (zor h o))) (p := (aK (A 0 1023) (A 2)) 0) hfr.1 hfr.2.1 q (zand (o - 1) fr) (max a ((mC (b + 30) o) + (sTb (aK (A 0 1023) (A 2)) u E j (zor h o)))) hnx.1 (by omega) hnx.2.2).2
                                      rw [hT9] at haR
                                      have ha7 : 0 ≤ (max a ((mC (b + 30) o) + (sTb (aK (A 0 1023) (A 2)) u E j (zor h o)))) ∧ (max a ((mC (b + 30) o) + (sTb (aK (A 0 1023) (A 2)) u E j (zor h o)))) ≤ R := ⟨by omega, haR⟩
                                      refine zT.iload 9 dX13_served_217 rfl ?_
                                      refine zT.iconst dX13_served_219 ?_
                                      refine zT.isub dX13_served_220 ?_
                                      refine zT.iload 8 dX13_served_221 rfl ?_
                                      refine zT.iand dX13_served_223 ?_
                                      refine zT.istore 9 dX13_served_224 (by decide) (zpre1 rfl (zcI _)) ?_
                                      show zT G _ _ _ [zR b, zI u, zI ((aK (A 0 1023) (A 2)) 6), zI ((sAl (aK (A 0 1023) (A 2))) + 1), zI E, zI e, zI h, zI (max a ((mC (b + 30) o) + (sTb (aK (A 0 1023) (A 2)) u E j (zor h o)))), zI fr, zI (zand (o - 1) fr)] _ _ _ _ _ _ _
                                      refine zT.goto (tgt := 159) dX13_served_226 (by decide) ?_
                                      exact ih159 _ _ q (by omega) (by exact ha7) (by exact hT7) (by omega)
                                    · rw [sCh_0 (by assumption), hif] at hT9
                                      have hT7 : ((-1 : Int) = -1 ∧ max a ((mC (b + 30) o) + (sTb (aK (A 0 1023) (A 2)) u E j (zor h o))) = R) ∨ (0 ≤ (-1 : Int) ∧ fSu (-1) fr ∧ (-1 : Int) < q ∧ sCh (fun o => fWs (aK (A 0 1023) (A 2)) o (u * (E - (j : Int))) ((aK (A 0 1023) (A 2)) 6) + sTb (aK (A 0 1023) (A 2)) u E j (zor h o)) ((aK (A 0 1023) (A 2)) 0) fr q (-1) (max a ((mC (b + 30) o) + (sTb (aK (A 0 1023) (A 2)) u E j (zor h o)))) = R) := Or.inl ⟨rfl, hT9⟩
                                      have ha7 : 0 ≤ (max a ((mC (b + 30) o) + (sTb (aK (A 0 1023) (A 2)) u E j (zor h o)))) ∧ (max a ((mC (b + 30) o) + (sTb (aK (A 0 1023) (A 2)) u E j (zor h o)))) ≤ R := ⟨by omega, by rw [hT9]; exact Int.le_refl _⟩
                                      refine zT.iconst dX13_served_213 ?_
                                      refine zT.goto (tgt := 224) dX13_served_214 (by decide) ?_
                                      refine zT.istore 9 dX13_served_224 (by decide) (zpre1 rfl (zcI _)) ?_
                                      show zT G _ _ _ [zR b, zI u, zI ((aK (A 0 1023) (A 2)) 6), zI ((sAl (aK (A 0 1023) (A 2))) + 1), zI E, zI e, zI h, zI (max a ((mC (b + 30) o) + (sTb (aK (A 0 1023) (A 2)) u E j (zor h o)))), zI fr, zI (-1)] _ _ _ _ _ _ _
                                      refine zT.goto (tgt := 159) dX13_served_226 (by decide) ?_
                                      exact ih159 _ _ q (by omega) (by exact ha7) (by exact hT7) (by omega)
                            exact L159 _ _ _ 1024 (by omega) (by omega) (by exact Or.inr ⟨hfr.1, hff, by omega, hR8⟩) (Nat.lt_succ_self _)
                      exact L136 _ _ _ (by exact hz) (by first | assumption | exact zq_i _ | exact zand_i _ _ | exact zor_i _ _ | exact zN _ | omega) (by first | assumption | exact zq_i _ | exact zand_i _ _ | exact zor_i _ _ | exact zN _ | omega) (by exact ht) (by exact fun o a c => hs o a (by omega)) (by exact fun w a c => by omega) (Nat.lt_succ_self _)
                    · refine zT.aload_n 0 dX13_served_90 rfl rfl ?_
                      refine zT.getF dX13_served_91 fX13_104 rfl (zMod.k hb) (j := 50) (by decide) rfl (zMod.f1050 hb) ?_
                      refine zT.iload 6 dX13_served_94 rfl ?_
                      refine zT.iload 6 dX13_served_96 rfl ?_
                      refine zT.callS (M' := mX13_bits) [zI t] [zI t, zR (b + 30)] dX13_served_98 kX13_413 rfl rfl (C_X13_bits (by omega) (by omega)) (by decide) (k' := 0) (n' := 0) (by omega) (by omega) (by simp only [List.map, zcI, zcJ, zcR, List.sum_cons, List.sum_nil]; decide) (zdk (v := some (zI (fPc t))) ?_) (fun _ _ _ _ h => h.elim)
                      show zT G _ _ _ _ [zI (fPc t), zI t, zR (b + 30)] _ _ _ _ _ _
                      refine zT.aload_n 0 dX13_served_101 rfl rfl ?_
                      refine zT.getF dX13_served_102 fX13_13 rfl (zMod.k hb) (j := 14) (by decide) rfl (zMod.f1014 hb) ?_
                      refine zT.iconst dX13_served_105 ?_
                      refine zT.iald dX13_served_106 (zMod.a1014 hb) (by first | assumption | exact zq_i _ | exact zand_i _ _ | exact zor_i _ _ | exact zN _ | omega) (by rw [(zMod.n1014 hb)]; first | assumption | exact zq_i _ | exact zand_i _ _ | exact zor_i _ _ | exact zN _ | omega) (fun z106 => ?_)
                      have r106 : mB (b + 2) 0 = m2 (b + 2) 0 := by rw [hz _ _ (by omega) (by omega) (by omega) (by omega)]
                      rw [r106] at z106 ⊢
                      rw [show m2 (b + 2) 0 = (aK (A 0 1023) (A 2)) 0 from hK0]
                      show zT G _ _ _ _ [zI ((aK (A 0 1023) (A 2)) 0), zI (fPc t), zI t, zR (b + 30)] _ _ _ _ _ _
                      refine zT.ic_le (tgt := 114) dX13_served_107 (by decide) (by first | assumption | exact zq_i _ | exact zand_i _ _ | exact zor_i _ _ | exact zN _ | omega) (by first | assumption | exact zq_i _ | exact zand_i _ _ | exact zor_i _ _ | exact zN _ | omega) (fun c107 => ?_) (fun c107 => ?_)
                      · refine zT.aload_n 0 dX13_served_114 rfl rfl ?_
                        refine zT.iload 6 dX13_served_115 rfl ?_
                        refine zT.iload_n 1 dX13_served_117 rfl rfl ?_
                        refine zT.iload 5 dX13_served_118 rfl ?_
                        refine zT.iconst dX13_served_120 ?_
                        refine zT.iadd dX13_served_121 ?_
                        refine zT.imul dX13_served_122 ?_
                        refine zT.callV (M' := mX13_worthOfSet) (b := b) [zI t, zI (u * (e + 1))] [zI t, zR (b + 30)] dX13_served_123 kX13_416 rfl rfl (ci := 10) (r := (RX13, TX13, 62)) rfl (zMod.k hb) (C_X13_worthOfSet hb hkB hk (by omega) (by omega)) (by decide) (k' := 0) (n' := 0) (by omega) (by omega) (by simp only [List.map, zcI, zcJ, zcR, List.sum_cons, List.sum_nil]; decide) (zdk (v := some (zI (fWs (aK (A 0 1023) (A 2)) t (u * (e + 1)) ((aK (A 0 1023) (A 2)) 6)))) ?_) (fun _ _ _ _ h => h.elim)
                        show zT G _ _ _ _ [zI (fWs (aK (A 0 1023) (A 2)) t (u * (e + 1)) ((aK (A 0 1023) (A 2)) 6)), zI t, zR (b + 30)] _ _ _ _ _ _
                        refine zT.iast dX13_served_126 (zMod.a1050 hb) (by first | assumption | exact zq_i _ | exact zand_i _ _ | exact zor_i _ _ | exact zN _ | omega) (by rw [(zMod.n1050 hb)]; first | assumption | exact zq_i _ | exact zand_i _ _ | exact zor_i _ _ | exact zN _ | omega) (by first | assumption | exact zq_i _ | exact zand_i _ _ | exact zor_i _ _ | exact zN _ | omega) ?_
                        obtain ⟨m7, em7⟩ : ∃ z, z = zup mB (b + 30) t (fWs (aK (A 0 1023) (A 2)) t (u * (e + 1)) ((aK (A 0 1023) (A 2)) 6)) := ⟨_, rfl⟩
                        rw [← em7]
                        refine zT.iinc 6 dX13_served_127 rfl (by decide) (zpre1 rfl (zcI _)) ?_
                        show zT G _ _ _ [zR b, zI u, zI ((aK (A 0 1023) (A 2)) 6), zI ((sAl (aK (A 0 1023) (A 2))) + 1), zI E, zI e, zI (t + 1), zU, zU, zU] _ _ _ _ _ _ _
                        refine zT.goto (tgt := 84) dX13_served_130 (by decide) ?_
                        exact ih84 _ _ (by rw [em7]; exact hz.up (by omega)) (by omega) (by omega) (by exact fun r w r0 r1 w0 w1 => by rw [em7, zup_ne (by omega)]; exact ht r w r0 r1 w0 w1) (by
                            exact fun o o0 o1 => by
                              by_cases q : o = t
                              · rw [q, em7, zup_at]
                                first | rw [if_pos (by omega)] | rw [if_neg (by omega)]
                              · rw [em7, zup_ne (by omega)]; exact hs o o0 (by omega)) (by omega)
                      · refine zT.iconst dX13_served_110 ?_
                        refine zT.goto (tgt := 126) dX13_served_111 (by decide) ?_
                        refine zT.iast dX13_served_126 (zMod.a1050 hb) (by first | assumption | exact zq_i _ | exact zand_i _ _ | exact zor_i _ _ | exact zN _ | omega) (by rw [(zMod.n1050 hb)]; first | assumption | exact zq_i _ | exact zand_i _ _ | exact zor_i _ _ | exact zN _ | omega) (by first | assumption | exact zq_i _ | exact zand_i _ _ | exact zor_i _ _ | exact zN _ | omega) ?_
                        obtain ⟨m8, em8⟩ : ∃ z, z = zup mB (b + 30) t (-1) := ⟨_, rfl⟩
                        rw [← em8]
                        refine zT.iinc 6 dX13_served_127 rfl (by decide) (zpre1 rfl (zcI _)) ?_
                        show zT G _ _ _ [zR b, zI u, zI ((aK (A 0 1023) (A 2)) 6), zI ((sAl (aK (A 0 1023) (A 2))) + 1), zI E, zI e, zI (t + 1), zU, zU, zU] _ _ _ _ _ _ _
                        refine zT.goto (tgt := 84) dX13_served_130 (by decide) ?_
                        exact ih84 _ _ (by rw [em8]; exact hz.up (by omega)) (by omega) (by omega) (by exact fun r w r0 r1 w0 w1 => by rw [em8, zup_ne (by omega)]; exact ht r w r0 r1 w0 w1) (by
                            exact fun o o0 o1 => by
                              by_cases q : o = t
                              · rw [q, em8, zup_at]
                                first | rw [if_pos (by omega)] | rw [if_neg (by omega)]
                              · rw [em8, zup_ne (by omega)]; exact hs o o0 (by omega)) (by omega)
                exact L84 _ _ _ (by exact hz) (by first | assumption | exact zq_i _ | exact zand_i _ _ | exact zor_i _ _ | exact zN _ | omega) (by first | assumption | exact zq_i _ | exact zand_i _ _ | exact zor_i _ _ | exact zN _ | omega) (by exact ht) (by exact fun o a c => by omega) (Nat.lt_succ_self _)
          exact L76 _ _ _ (by exact hz) (by omega) (by omega) (by
              exact fun r w r0 r1 w0 w1 => by
                obtain rfl : r = E := by omega
                rw [show (r - r).toNat = 0 by omega]
                exact hT w w0 (by omega)) (Nat.lt_succ_self _)
        · refine zT.aload_n 0 dX13_served_49 rfl rfl ?_
          refine zT.getF dX13_served_50 fX13_98 rfl (zMod.k hb) (j := 47) (by decide) rfl (zMod.f1047 hb) ?_
          refine zT.sipush dX13_served_53 ?_
          refine zT.iload 4 dX13_served_56 rfl ?_
          refine zT.imul dX13_served_58 ?_
          refine zT.iload 5 dX13_served_59 rfl ?_
          refine zT.iadd dX13_served_61 ?_
          refine zT.iconst dX13_served_62 ?_
          refine zT.iast dX13_served_63 (zMod.a1047 hb) (by first | assumption | exact zq_i _ | exact zand_i _ _ | exact zor_i _ _ | exact zN _ | omega) (by rw [(zMod.n1047 hb)]; first | assumption | exact zq_i _ | exact zand_i _ _ | exact zor_i _ _ | exact zN _ | omega) (by first | assumption | exact zq_i _ | exact zand_i _ _ | exact zor_i _ _ | exact zN _ | omega) ?_
          obtain ⟨m9, em9⟩ : ∃ z, z = zup mA (b + 28) ((256 * E) + t) 0 := ⟨_, rfl⟩
          rw [← em9]
          refine zT.iinc 5 dX13_served_64 rfl (by decide) (zpre1 rfl (zcI _)) ?_
          show zT G _ _ _ [zR b, zI u, zI ((aK (A 0 1023) (A 2)) 6), zI ((sAl (aK (A 0 1023) (A 2))) + 1), zI E, zI (t + 1), zU, zU, zU, zU] _ _ _ _ _ _ _
          refine zT.goto (tgt := 43) dX13_served_67 (by decide) ?_
          exact ih43 _ _ (by rw [em9]; exact hz.up (by omega)) (by omega) (by omega) (by
              exact fun w w0 w1 => by
                by_cases q : w = t
                · rw [q, em9, zup_at]
                · rw [em9, zup_ne (by omega)]; exact hT w w0 (by omega)) (by omega)
    exact L43 _ _ _ (by exact zHv.rf) (by first | assumption | exact zq_i _ | exact zand_i _ _ | exact zor_i _ _ | exact zN _ | omega) (by first | assumption | exact zq_i _ | exact zand_i _ _ | exact zor_i _ _ | exact zN _ | omega) (by exact fun w a c => by omega) (Nat.lt_succ_self _)
  · refine zT.iconst dX13_served_19 ?_
    refine zT.iret dX13_served_20 rfl ?_
    rw [eQ9]
    exact ⟨by rw [if_neg (by omega)], rfl, hI2, fun q => by omega, fun _ => hE2⟩

