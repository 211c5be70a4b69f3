/-! hotel: the class (written by gen/m_hotel.py) -/
theorem zup_ae {m : zMm} {a i j v : Int} (h : j = i) : zup m a i v a j = v := by rw [h]; exact zup_at
/-- only the hotel's cells of the class change -/
def zHo (x : Int) (m m2 : zMm) : Prop := ∀ a j, a ≠ x + 46 → a ≠ x + 47 → ¬ (a = x ∧ j = 35) → m2 a j = m a j
theorem zHo.rf {x : Int} {m : zMm} : zHo x m m := fun _ _ _ _ _ => rfl
theorem zHo.up {x a i v : Int} {m m2 : zMm} (h : zHo x m m2) (ha : a = x + 46 ∨ a = x + 47 ∨ (a = x ∧ i = 35)) : zHo x m (zup m2 a i v) := fun b j h1 h2 h3 => by
  rw [zup_ne (by omega)]
  exact h b j h1 h2 h3
def uPn (A : zMm) (n : Int) (V : Int → Int) : zMm := fun o j => if o = 32 then V j else if o = 0 ∧ j = 1053 then n else A o j
theorem uPn_o {A : zMm} {n : Int} {V : Int → Int} {o j : Int} (h : ¬ (o = 32 ∨ (o = 0 ∧ j = 1053))) : uPn A n V o j = A o j := by
  unfold uPn
  rw [if_neg (by omega), if_neg (by omega)]
theorem uPn_n {A : zMm} {n : Int} {V : Int → Int} : uPn A n V 0 1053 = n := by
  unfold uPn
  rw [if_neg (by omega), if_pos ⟨rfl, rfl⟩]
theorem uPn_v {A : zMm} {n : Int} {V : Int → Int} : uPn A n V 32 = V := funext fun j => if_pos rfl
theorem rel.pans {S : zS} {m m2 : zMm} {x n : Int} {V : Int → Int} {A : zMm} (h : rel S m x A) (hz : zHo x m m2) (hn : 0 ≤ n ∧ n ≤ 5) (h1 : m2 x 35 = n) (h2 : ∀ i, 0 ≤ i → i < n → m2 (x + 46) i = V i) : rel S m2 x (uPn A n V) :=
  h.set_pn zGr.rf (fun k j _ _ hi hne => hz _ _ (by omega) (fun q => by unfold rIn at hi; omega) (by omega)) (fun a a0 _ j => hz _ _ (by omega) (by omega) (by omega)) (fun o j q => uPn_o q) (by rw [uPn_n]; exact hn) (by rw [uPn_n, uPn_v]; exact ⟨Or.inl h1, h2⟩)
theorem rel.pansc {S : zS} {m : zMm} {x n : Int} {V W : Int → Int} {A : zMm} (h : rel S m x (uPn A n V)) (e : ∀ i, 0 ≤ i → i < n → W i = V i) : rel S m x (uPn A n W) := by
  have q := h.pn
  have v := h.vpn
  rw [uPn_n] at q v
  rw [uPn_v] at q
  refine h.set_pn zGr.rf (fun k j _ _ _ _ => rfl) zFar.rf (fun o j z => by rw [uPn_o z, uPn_o z]) (by rw [uPn_n]; exact v) ?_
  rw [uPn_n, uPn_v]
  exact ⟨q.1, fun i a b => by rw [e i a b]; exact q.2 i a b⟩
theorem C_X1_hotel {G : zG}  {S : zS} {m : zMm} {x : Int} {A : zMm} (hR : rel S m x A) {n u a : Int} (hn : zi n) (hu : zi u) (ha : zi a) : zC G mX1_hotel 2 0 0 [zR x, zI n, zI u, zI a] S m (/- qabs -/ zPo S m x (some (zI (if (1 ≤ n ∧ n ≤ 200) ∧ (1 ≤ u ∧ u ≤ 20) ∧ (1 ≤ a ∧ a ≤ 400) ∧ 2 ≤ a / u ∧ (aK (A 0 1023) (A 2)) 7 ≠ 0 then hTb 1000000000 (aK (A 0 1023) (A 2)) ((aK (A 0 1023) (A 2)) 7) ((aK (A 0 1023) (A 2)) 7).toNat ((2 * n + a / u - 1) / (a / u)) else -1))) (if (1 ≤ n ∧ n ≤ 200) ∧ (1 ≤ u ∧ u ≤ 20) ∧ (1 ≤ a ∧ a ≤ 400) ∧ 2 ≤ a / u ∧ (aK (A 0 1023) (A 2)) 7 ≠ 0 then uPn A ((aK (A 0 1023) (A 2)) 7) (hPn 1000000000 (aK (A 0 1023) (A 2)) ((aK (A 0 1023) (A 2)) 7) ((2 * n + a / u - 1) / (a / u))) else A)) zNX := by
  have hk := hR.vki.1
  have hKi := (hR.ki.2.1).ki hk
  have hKn := hKi.nu
  have hkr := hR.ki.2.1
  have hkf := hkr.2.1
  have hk0 := hk.1
  have hq1 : 1 ≤ u → 0 ≤ a → 0 ≤ a / u ∧ a / u ≤ a := fun h1 h2 => ⟨Int.ediv_nonneg h2 (by omega), Int.ediv_le_self _ h2⟩
  have hkx := hR.ki.1
  obtain ⟨NS, hNS⟩ : ∃ z, z = (aK (A 0 1023) (A 2)) 7 := ⟨_, rfl⟩
  refine zC.of [zR x, zI n, zI u, zI a, zU, zU, zU, zU, zU] (by decide) rfl (zEn1 (zcR _) (zEn1 (zcI _) (zEn1 (zcI _) (zEn1 (zcI _) (zEn0 (by simp)))))) rfl ?_
  obtain ⟨Q9, eQ9⟩ : ∃ z : zQt, z = (/- qabs -/ zPo S m x (some (zI (if (1 ≤ n ∧ n ≤ 200) ∧ (1 ≤ u ∧ u ≤ 20) ∧ (1 ≤ a ∧ a ≤ 400) ∧ 2 ≤ a / u ∧ (aK (A 0 1023) (A 2)) 7 ≠ 0 then hTb 1000000000 (aK (A 0 1023) (A 2)) ((aK (A 0 1023) (A 2)) 7) ((aK (A 0 1023) (A 2)) 7).toNat ((2 * n + a / u - 1) / (a / u)) else -1))) (if (1 ≤ n ∧ n ≤ 200) ∧ (1 ≤ u ∧ u ≤ 20) ∧ (1 ≤ a ∧ a ≤ 400) ∧ 2 ≤ a / u ∧ (aK (A 0 1023) (A 2)) 7 ≠ 0 then uPn A ((aK (A 0 1023) (A 2)) 7) (hPn 1000000000 (aK (A 0 1023) (A 2)) ((aK (A 0 1023) (A 2)) 7) ((2 * n + a / u - 1) / (a / u))) else A)) := ⟨_, rfl⟩
  rw [← eQ9]
  refine zT.iload_n 1 dX1_hotel_0 rfl rfl ?_
  refine zT.iconst dX1_hotel_1 ?_
  refine zT.sipush dX1_hotel_2 ?_
  refine zT.callS (M' := mX1_isIn) [zI n, zI 1, zI 200] [] dX1_hotel_5 kX1_231 rfl rfl (C_X1_isIn (by first | assumption | exact zq_i _ | exact zand_i _ _ | exact zor_i _ _ | exact zxor_i _ _ | exact zN _ | omega) (by first | assumption | exact zq_i _ | exact zand_i _ _ | exact zor_i _ _ | exact zxor_i _ _ | exact zN _ | omega) (by first | assumption | exact zq_i _ | exact zand_i _ _ | exact zor_i _ _ | exact zxor_i _ _ | exact zN _ | omega)) (by decide) (k' := 0) (n' := 0) (by omega) (by omega) (by decide) (zdk (v := some (zI (zq (1 ≤ n ∧ n ≤ 200)))) ?_) (fun _ _ _ _ h => h.elim)
  show zT G _ _ _ _ [zI (zq (1 ≤ n ∧ n ≤ 200))] _ _ _ _ _ _
  refine zT.if_eqB (tgt := 49) dX1_hotel_8 (by decide) (fun c8 => ?_) (fun c8 => ?_)
  · refine zT.iconst dX1_hotel_49 ?_
    refine zT.iret dX1_hotel_50 rfl ?_
    rw [eQ9]
    rw [if_neg (by omega), if_neg (by omega)]
    exact ⟨rfl, zGr.rf, hR, zOut.rf⟩
  · refine zT.iload_n 2 dX1_hotel_11 rfl rfl ?_
    refine zT.iconst dX1_hotel_12 ?_
    refine zT.bipush dX1_hotel_13 ?_
    refine zT.callS (M' := mX1_isIn) [zI u, zI 1, zI 20] [] dX1_hotel_15 kX1_231 rfl rfl (C_X1_isIn (by first | assumption | exact zq_i _ | exact zand_i _ _ | exact zor_i _ _ | exact zxor_i _ _ | exact zN _ | omega) (by first | assumption | exact zq_i _ | exact zand_i _ _ | exact zor_i _ _ | exact zxor_i _ _ | exact zN _ | omega) (by first | assumption | exact zq_i _ | exact zand_i _ _ | exact zor_i _ _ | exact zxor_i _ _ | exact zN _ | omega)) (by decide) (k' := 0) (n' := 0) (by omega) (by omega) (by decide) (zdk (v := some (zI (zq (1 ≤ u ∧ u ≤ 20)))) ?_) (fun _ _ _ _ h => h.elim)
    show zT G _ _ _ _ [zI (zq (1 ≤ u ∧ u ≤ 20))] _ _ _ _ _ _
    refine zT.if_eqB (tgt := 49) dX1_hotel_18 (by decide) (fun c18 => ?_) (fun c18 => ?_)
    · refine zT.iconst dX1_hotel_49 ?_
      refine zT.iret dX1_hotel_50 rfl ?_
      rw [eQ9]
      rw [if_neg (by omega), if_neg (by omega)]
      exact ⟨rfl, zGr.rf, hR, zOut.rf⟩
    · refine zT.iload_n 3 dX1_hotel_21 rfl rfl ?_
      refine zT.iconst dX1_hotel_22 ?_
      refine zT.sipush dX1_hotel_23 ?_
      refine zT.callS (M' := mX1_isIn) [zI a, zI 1, zI 400] [] dX1_hotel_26 kX1_231 rfl rfl (C_X1_isIn (by first | assumption | exact zq_i _ | exact zand_i _ _ | exact zor_i _ _ | exact zxor_i _ _ | exact zN _ | omega) (by first | assumption | exact zq_i _ | exact zand_i _ _ | exact zor_i _ _ | exact zxor_i _ _ | exact zN _ | omega) (by first | assumption | exact zq_i _ | exact zand_i _ _ | exact zor_i _ _ | exact zxor_i _ _ | exact zN _ | omega)) (by decide) (k' := 0) (n' := 0) (by omega) (by omega) (by decide) (zdk (v := some (zI (zq (1 ≤ a ∧ a ≤ 400)))) ?_) (fun _ _ _ _ h => h.elim)
      show zT G _ _ _ _ [zI (zq (1 ≤ a ∧ a ≤ 400))] _ _ _ _ _ _
      refine zT.if_eqB (tgt := 49) dX1_hotel_29 (by decide) (fun c29 => ?_) (fun c29 => ?_)
      · refine zT.iconst dX1_hotel_49 ?_
        refine zT.iret dX1_hotel_50 rfl ?_
        rw [eQ9]
        rw [if_neg (by omega), if_neg (by omega)]
        exact ⟨rfl, zGr.rf, hR, zOut.rf⟩
      · refine zT.iload_n 3 dX1_hotel_32 rfl rfl ?_
        refine zT.iload_n 2 dX1_hotel_33 rfl rfl ?_
        refine zT.idiv dX1_hotel_34 (by first | assumption | exact zq_i _ | exact zand_i _ _ | exact zor_i _ _ | exact zxor_i _ _ | exact zN _ | omega) (by first | assumption | exact zq_i _ | exact zand_i _ _ | exact zor_i _ _ | exact zxor_i _ _ | exact zN _ | omega) (by first | assumption | exact zq_i _ | exact zand_i _ _ | exact zor_i _ _ | exact zxor_i _ _ | exact zN _ | omega) (by first | assumption | exact zq_i _ | exact zand_i _ _ | exact zor_i _ _ | exact zxor_i _ _ | exact zN _ | omega) ?_
        refine zT.iconst dX1_hotel_35 ?_
        refine zT.ic_lt (tgt := 49) dX1_hotel_36 (by decide) (by first | assumption | exact zq_i _ | exact zand_i _ _ | exact zor_i _ _ | exact zxor_i _ _ | exact zN _ | omega) (by first | assumption | exact zq_i _ | exact zand_i _ _ | exact zor_i _ _ | exact zxor_i _ _ | exact zN _ | omega) (fun c36 => ?_) (fun c36 => ?_)
        · refine zT.iconst dX1_hotel_49 ?_
          refine zT.iret dX1_hotel_50 rfl ?_
          rw [eQ9]
          rw [if_neg (by omega), if_neg (by omega)]
          exact ⟨rfl, zGr.rf, hR, zOut.rf⟩
        · refine zT.aload_n 0 dX1_hotel_39 rfl rfl ?_
          refine zT.getR dX1_hotel_40 fX1_66 rfl (zPan.k hR.sh) (j := 7) (by decide) rfl ?_
          refine zT.getI dX1_hotel_43 fX1_258 rfl (zKit.k hR.ki.2.1.1) (j := 10) (by decide) rfl (fun z43 => ?_)
          refine zT.if_ne (tgt := 51) dX1_hotel_46 (by decide) (by first | assumption | exact zq_i _ | exact zand_i _ _ | exact zor_i _ _ | exact zxor_i _ _ | exact zN _ | omega) (fun c46 => ?_) (fun c46 => ?_)
          · refine zT.iload_n 3 dX1_hotel_51 rfl rfl ?_
            refine zT.iload_n 2 dX1_hotel_52 rfl rfl ?_
            refine zT.idiv dX1_hotel_53 (by first | assumption | exact zq_i _ | exact zand_i _ _ | exact zor_i _ _ | exact zxor_i _ _ | exact zN _ | omega) (by first | assumption | exact zq_i _ | exact zand_i _ _ | exact zor_i _ _ | exact zxor_i _ _ | exact zN _ | omega) (by first | assumption | exact zq_i _ | exact zand_i _ _ | exact zor_i _ _ | exact zxor_i _ _ | exact zN _ | omega) (by first | assumption | exact zq_i _ | exact zand_i _ _ | exact zor_i _ _ | exact zxor_i _ _ | exact zN _ | omega) ?_
            refine zT.istore 4 dX1_hotel_54 (by decide) (zpre1 rfl (zcI _)) ?_
            show zT G _ _ _ [zR x, zI n, zI u, zI a, zI (a / u), zU, zU, zU, zU] _ _ _ _ _ _ _
            refine zT.iconst dX1_hotel_56 ?_
            refine zT.iload_n 1 dX1_hotel_57 rfl rfl ?_
            refine zT.imul dX1_hotel_58 ?_
            refine zT.iload 4 dX1_hotel_59 rfl ?_
            refine zT.iadd dX1_hotel_61 ?_
            refine zT.iconst dX1_hotel_62 ?_
            refine zT.isub dX1_hotel_63 ?_
            refine zT.iload 4 dX1_hotel_64 rfl ?_
            refine zT.idiv dX1_hotel_66 (by first | assumption | exact zq_i _ | exact zand_i _ _ | exact zor_i _ _ | exact zxor_i _ _ | exact zN _ | omega) (by first | assumption | exact zq_i _ | exact zand_i _ _ | exact zor_i _ _ | exact zxor_i _ _ | exact zN _ | omega) (by first | assumption | exact zq_i _ | exact zand_i _ _ | exact zor_i _ _ | exact zxor_i _ _ | exact zN _ | omega) (by first | assumption | exact zq_i _ | exact zand_i _ _ | exact zor_i _ _ | exact zxor_i _ _ | exact zN _ | omega) ?_
            refine zT.istore 5 dX1_hotel_67 (by decide) (zpre1 rfl (zcI _)) ?_
            show zT G _ _ _ [zR x, zI n, zI u, zI a, zI (a / u), zI ((((2 * n) + (a / u)) - 1) / (a / u)), zU, zU, zU] _ _ _ _ _ _ _
            have hnb : 0 ≤ (2 * n + a / u - 1) / (a / u) ∧ (2 * n + a / u - 1) / (a / u) ≤ 200 := by
              refine ⟨Int.ediv_nonneg (by omega) (by omega), ?_⟩
              have e : (2 * n + a / u - 1) / (a / u) < 201 := Int.ediv_lt_of_lt_mul (by omega) (by have : 201 * 2 ≤ 201 * (a / u) := Int.mul_le_mul_of_nonneg_left (by omega) (by omega); omega)
              omega
            obtain ⟨need, hneed⟩ : ∃ z, z = (2 * n + a / u - 1) / (a / u) := ⟨_, rfl⟩
            rw [← hneed] at hnb
            obtain ⟨n0, n1⟩ := hnb
            rw [← hneed]
            show zT G _ _ _ [zR x, zI n, zI u, zI a, zI (a / u), zI need, zU, zU, zU] _ _ _ _ _ _ _
            refine zT.iconst dX1_hotel_69 ?_
            refine zT.istore 6 dX1_hotel_70 (by decide) (zpre1 rfl (zcI _)) ?_
            show zT G _ _ _ [zR x, zI n, zI u, zI a, zI (a / u), zI need, zI 0, zU, zU] _ _ _ _ _ _ _
            have L72 : ∀ (N : Nat) (mA : zMm) (v : Int), (zHo x m mA) → (0 ≤ v) → (v ≤ need + 1) → (∀ w, 0 ≤ w → w < v → mA (x + 47) (401 * NS + w) = hTb 1000000000 (aK (A 0 1023) (A 2)) NS 0 w) → ((need + 1 - v).toNat) < N → zT G mX1_hotel 2 72 [zR x, zI n, zI u, zI a, zU, zI need, zI v, zU, zU] [] S mA 0 0 Q9 zNX := by
              intro N
              induction N with
              | zero => intro mA v hz v0 v1 ht hN; exact absurd hN (Nat.not_lt_zero _)
              | succ N ih72 =>
                intro mA v hz v0 v1 ht hN
                refine zT.iload 6 dX1_hotel_72 rfl ?_
                refine zT.iload 5 dX1_hotel_74 rfl ?_
                refine zT.ic_gt (tgt := 116) dX1_hotel_76 (by decide) (by first | assumption | exact zq_i _ | exact zand_i _ _ | exact zor_i _ _ | exact zxor_i _ _ | exact zN _ | omega) (by first | assumption | exact zq_i _ | exact zand_i _ _ | exact zor_i _ _ | exact zxor_i _ _ | exact zN _ | omega) (fun c76 => ?_) (fun c76 => ?_)
                · refine zT.aload_n 0 dX1_hotel_116 rfl rfl ?_
                  refine zT.getR dX1_hotel_117 fX1_66 rfl (zPan.k hR.sh) (j := 7) (by decide) rfl ?_
                  have r117 : mA x 7 = m x 7 := by rw [hz _ _ (by omega) (by omega) (by omega)]
                  rw [r117]
                  refine zT.getI dX1_hotel_120 fX1_258 rfl (zKit.k hR.ki.2.1.1) (j := 10) (by decide) rfl (fun z120 => ?_)
                  have r120 : mA (m x 7) 210 = m (m x 7) 210 := by rw [hz _ _ (by omega) (by omega) (by omega)]
                  rw [r120] at z120 ⊢
                  refine zT.iconst dX1_hotel_123 ?_
                  refine zT.isub dX1_hotel_124 ?_
                  refine zT.istore 6 dX1_hotel_125 (by decide) (zpre1 rfl (zcI _)) ?_
                  show zT G _ _ _ [zR x, zI n, zI u, zI a, zU, zI need, zI ((m (m x 7) 210) - 1), zU, zU] _ _ _ _ _ _ _
                  have L127 : ∀ (N : Nat) (mA : zMm) (k : Int), (zHo x m mA) → (-1 ≤ k) → (k < NS) → (∀ r w, k < r → r ≤ NS → 0 ≤ w → w ≤ need → mA (x + 47) (401 * r + w) = hTb 1000000000 (aK (A 0 1023) (A 2)) NS (NS - r).toNat w) → ((k + 1).toNat) < N → zT G mX1_hotel 2 127 [zR x, zI n, zI u, zI a, zU, zI need, zI k, zU, zU] [] S mA 0 0 Q9 zNX := by
                    intro N
                    induction N with
                    | zero => intro mA k hz k0 k1 ht hN; exact absurd hN (Nat.not_lt_zero _)
                    | succ N ih127 =>
                      intro mA k hz k0 k1 ht hN
                      refine zT.iload 6 dX1_hotel_127 rfl ?_
                      refine zT.if_lt (tgt := 242) dX1_hotel_129 (by decide) (by first | assumption | exact zq_i _ | exact zand_i _ _ | exact zor_i _ _ | exact zxor_i _ _ | exact zN _ | omega) (fun c129 => ?_) (fun c129 => ?_)
                      · refine zT.aload_n 0 dX1_hotel_242 rfl rfl ?_
                        refine zT.aload_n 0 dX1_hotel_243 rfl rfl ?_
                        refine zT.getR dX1_hotel_244 fX1_66 rfl (zPan.k hR.sh) (j := 7) (by decide) rfl ?_
                        have r244 : mA x 7 = m x 7 := by rw [hz _ _ (by omega) (by omega) (by omega)]
                        rw [r244]
                        refine zT.getI dX1_hotel_247 fX1_258 rfl (zKit.k hR.ki.2.1.1) (j := 10) (by decide) rfl (fun z247 => ?_)
                        have r247 : mA (m x 7) 210 = m (m x 7) 210 := by rw [hz _ _ (by omega) (by omega) (by omega)]
                        rw [r247] at z247 ⊢
                        refine zT.putI dX1_hotel_250 fX1_168 zs_35 rfl (zPan.k hR.sh) (j := 35) (by decide) rfl (by first | assumption | exact zq_i _ | exact zand_i _ _ | exact zor_i _ _ | exact zxor_i _ _ | exact zN _ | omega) ?_
                        obtain ⟨m1, em1⟩ : ∃ z, z = zup mA x 35 (m (m x 7) 210) := ⟨_, rfl⟩
                        rw [← em1]
                        refine zT.iload 5 dX1_hotel_253 rfl ?_
                        refine zT.istore 6 dX1_hotel_255 (by decide) (zpre1 rfl (zcI _)) ?_
                        show zT G _ _ _ [zR x, zI n, zI u, zI a, zU, zI need, zI need, zU, zU] _ _ _ _ _ _ _
                        refine zT.iconst dX1_hotel_257 ?_
                        refine zT.istore 7 dX1_hotel_258 (by decide) (zpre1 rfl (zcI _)) ?_
                        show zT G _ _ _ [zR x, zI n, zI u, zI a, zU, zI need, zI need, zI 0, zU] _ _ _ _ _ _ _
                        have L260 : ∀ (N : Nat) (mA : zMm) (k : Int) (l : Int), (zHo x m mA) → (0 ≤ k) → (k ≤ NS) → (∀ r w, 0 ≤ r → r ≤ NS → 0 ≤ w → w ≤ need → mA (x + 47) (401 * r + w) = hTb 1000000000 (aK (A 0 1023) (A 2)) NS (NS - r).toNat w) → (mA x 35 = NS) → (l = hLf 1000000000 (aK (A 0 1023) (A 2)) NS need k.toNat) → (∀ j, 0 ≤ j → j < k → mA (x + 46) j = hPn 1000000000 (aK (A 0 1023) (A 2)) NS need j) → ((NS - k).toNat) < N → zT G mX1_hotel 2 260 [zR x, zI n, zI u, zI a, zU, zI need, zI l, zI k, zU] [] S mA 0 0 Q9 zNX := by
                          intro N
                          induction N with
                          | zero => intro mA k l hz k0 k1 ht h35 hl hp hN; exact absurd hN (Nat.not_lt_zero _)
                          | succ N ih260 =>
                            intro mA k l hz k0 k1 ht h35 hl hp hN
                            have hlb := hLf_b (F := 1000000000) hk hNS n0 n1 k.toNat (by omega)
                            rw [← hl] at hlb
                            refine zT.iload 7 dX1_hotel_260 rfl ?_
                            refine zT.aload_n 0 dX1_hotel_262 rfl rfl ?_
                            refine zT.getR dX1_hotel_263 fX1_66 rfl (zPan.k hR.sh) (j := 7) (by decide) rfl ?_
                            have r263 : mA x 7 = m x 7 := by rw [hz _ _ (by omega) (by omega) (by omega)]
                            rw [r263]
                            refine zT.getI dX1_hotel_266 fX1_258 rfl (zKit.k hR.ki.2.1.1) (j := 10) (by decide) rfl (fun z266 => ?_)
                            have r266 : mA (m x 7) 210 = m (m x 7) 210 := by rw [hz _ _ (by omega) (by omega) (by omega)]
                            rw [r266] at z266 ⊢
                            refine zT.ic_ge (tgt := 352) dX1_hotel_269 (by decide) (by first | assumption | exact zq_i _ | exact zand_i _ _ | exact zor_i _ _ | exact zxor_i _ _ | exact zN _ | omega) (by first | assumption | exact zq_i _ | exact zand_i _ _ | exact zor_i _ _ | exact zxor_i _ _ | exact zN _ | omega) (fun c269 => ?_) (fun c269 => ?_)
                            · refine zT.aload_n 0 dX1_hotel_352 rfl rfl ?_
                              refine zT.getF dX1_hotel_353 fX1_165 rfl (zPan.k hR.sh) (j := 34) (by decide) rfl (zPan.f34 hR.sh) ?_
                              refine zT.iload 5 dX1_hotel_356 rfl ?_
                              refine zT.iald dX1_hotel_358 (zPan.a34 hR.sh) (by first | assumption | exact zq_i _ | exact zand_i _ _ | exact zor_i _ _ | exact zxor_i _ _ | exact zN _ | omega) (by rw [(zPan.n34 hR.sh)]; first | assumption | exact zq_i _ | exact zand_i _ _ | exact zor_i _ _ | exact zxor_i _ _ | exact zN _ | omega) (fun z358 => ?_)
                              refine zT.iret dX1_hotel_359 rfl ?_
                              rw [eQ9]
                              have hk9 : k = NS := by omega
                              have h9 := ht 0 need (by omega) (by omega) n0 (Int.le_refl _)
                              rw [show 401 * 0 + need = need by omega, show (NS - 0).toNat = NS.toNat by rw [Int.sub_zero]] at h9
                              rw [if_pos (by omega), if_pos (by omega), ← hNS, ← hneed]
                              exact ⟨by rw [h9], zGr.rf, hR.pans hz (by omega) h35 (fun i i0 i1 => hp i i0 (by omega)), fun c c0 c1 j => hz _ _ (by omega) (by omega) (by omega)⟩
                            · obtain ⟨SS, hSS⟩ : ∃ z, z = hSt 1000000000 (aK (A 0 1023) (A 2)) NS k l := ⟨_, rfl⟩
                              refine zT.aload_n 0 dX1_hotel_272 rfl rfl ?_
                              refine zT.getF dX1_hotel_273 fX1_162 rfl (zPan.k hR.sh) (j := 33) (by decide) rfl (zPan.f33 hR.sh) ?_
                              refine zT.iload 7 dX1_hotel_276 rfl ?_
                              refine zT.iconst dX1_hotel_278 ?_
                              refine zT.iast dX1_hotel_279 (zPan.a33 hR.sh) (by first | assumption | exact zq_i _ | exact zand_i _ _ | exact zor_i _ _ | exact zxor_i _ _ | exact zN _ | omega) (by rw [(zPan.n33 hR.sh)]; first | assumption | exact zq_i _ | exact zand_i _ _ | exact zor_i _ _ | exact zxor_i _ _ | exact zN _ | omega) (by first | assumption | exact zq_i _ | exact zand_i _ _ | exact zor_i _ _ | exact zxor_i _ _ | exact zN _ | omega) ?_
                              obtain ⟨m2, em2⟩ : ∃ z, z = zup mA (x + 46) k 0 := ⟨_, rfl⟩
                              rw [← em2]
                              have L280 : ∀ (N : Nat) (mB : zMm) (l2 : Int) (p : Int) (f : Nat), (zHo x m mB) → (∀ r w, 0 ≤ r → r ≤ NS → 0 ≤ w → w ≤ need → mB (x + 47) (401 * r + w) = hTb 1000000000 (aK (A 0 1023) (A 2)) NS (NS - r).toNat w) → (mB x 35 = NS) → (∀ j, 0 ≤ j → j < k → mB (x + 46) j = hPn 1000000000 (aK (A 0 1023) (A 2)) NS need j) → (mB (x + 46) k = p) → (0 ≤ l2 ∧ l2 ≤ need) → (l2 < f) → (0 ≤ p ∧ p + l2 ≤ 200) → (hGo (hTb 1000000000 (aK (A 0 1023) (A 2)) NS (NS - 1 - k).toNat) (hTb 1000000000 (aK (A 0 1023) (A 2)) NS (NS - k).toNat) ((aK (A 0 1023) (A 2)) (48 + 2 * k + 0)) f l2 p = SS) → l2.toNat < N → zT G mX1_hotel 2 280 [zR x, zI n, zI u, zI a, zU, zI need, zI l2, zI k, zU] [] S mB 0 0 Q9 zNX := by
                                intro N
                                induction N with
                                | zero => intro mB l2 p f hz ht h35 hp hpk lb lf pb hT hN; exact absurd hN (Nat.not_lt_zero _)
                                | succ N ih280 =>
                                  intro mB l2 p f hz ht h35 hp hpk lb lf pb hT hN
                                  have htu := ht (k + 1) l2 (by omega) (by omega) lb.1 lb.2
                                  rw [show NS - (k + 1) = NS - 1 - k by omega] at htu
                                  have htc := ht k l2 (by omega) (by omega) lb.1 lb.2
                                  have hkk := hk.2.2.2 k (by omega) (by omega)
                                  have hk1k := hkk.2.2.2.2 (by omega)
                                  have hks := hkr.2.2.2.2 k (by omega) (by omega)
                                  refine zT.aload_n 0 dX1_hotel_280 rfl rfl ?_
                                  refine zT.getF dX1_hotel_281 fX1_165 rfl (zPan.k hR.sh) (j := 34) (by decide) rfl (zPan.f34 hR.sh) ?_
                                  refine zT.sipush dX1_hotel_284 ?_
                                  refine zT.iload 7 dX1_hotel_287 rfl ?_
                                  refine zT.iconst dX1_hotel_289 ?_
                                  refine zT.iadd dX1_hotel_290 ?_
                                  refine zT.imul dX1_hotel_291 ?_
                                  refine zT.iload 6 dX1_hotel_292 rfl ?_
                                  refine zT.iadd dX1_hotel_294 ?_
                                  refine zT.iald dX1_hotel_295 (zPan.a34 hR.sh) (by first | assumption | exact zq_i _ | exact zand_i _ _ | exact zor_i _ _ | exact zxor_i _ _ | exact zN _ | omega) (by rw [(zPan.n34 hR.sh)]; first | assumption | exact zq_i _ | exact zand_i _ _ | exact zor_i _ _ | exact zxor_i _ _ | exact zN _ | omega) (fun z295 => ?_)
                                  refine zT.aload_n 0 dX1_hotel_296 rfl rfl ?_
                                  refine zT.getF dX1_hotel_297 fX1_165 rfl (zPan.k hR.sh) (j := 34) (by decide) rfl (zPan.f34 hR.sh) ?_
                                  refine zT.sipush dX1_hotel_300 ?_
                                  refine zT.iload 7 dX1_hotel_303 rfl ?_
                                  refine zT.imul dX1_hotel_305 ?_
                                  refine zT.iload 6 dX1_hotel_306 rfl ?_
                                  refine zT.iadd dX1_hotel_308 ?_
                                  refine zT.iald dX1_hotel_309 (zPan.a34 hR.sh) (by first | assumption | exact zq_i _ | exact zand_i _ _ | exact zor_i _ _ | exact zxor_i _ _ | exact zN _ | omega) (by rw [(zPan.n34 hR.sh)]; first | assumption | exact zq_i _ | exact zand_i _ _ | exact zor_i _ _ | exact zxor_i _ _ | exact zN _ | omega) (fun z309 => ?_)
                                  refine zT.ic_eq (tgt := 346) dX1_hotel_310 (by decide) (by first | assumption | exact zq_i _ | exact zand_i _ _ | exact zor_i _ _ | exact zxor_i _ _ | exact zN _ | omega) (by first | assumption | exact zq_i _ | exact zand_i _ _ | exact zor_i _ _ | exact zxor_i _ _ | exact zN _ | omega) (fun c310 => ?_) (fun c310 => ?_)
                                  · have heq : hTb 1000000000 (aK (A 0 1023) (A 2)) NS (NS - 1 - k).toNat l2 = hTb 1000000000 (aK (A 0 1023) (A 2)) NS (NS - k).toNat l2 := by rw [← htu, ← htc]; assumption
                                    refine zT.iinc 7 dX1_hotel_346 rfl (by decide) (zpre1 rfl (zcI _)) ?_
                                    show zT G _ _ _ [zR x, zI n, zI u, zI a, zU, zI need, zI l2, zI (k + 1), zU] _ _ _ _ _ _ _
                                    refine zT.goto (tgt := 260) dX1_hotel_349 (by decide) ?_
                                    exact ih260 _ _ _ (by exact hz) (by first | assumption | exact zq_i _ | exact zand_i _ _ | exact zor_i _ _ | exact zxor_i _ _ | exact zN _ | omega) (by first | assumption | exact zq_i _ | exact zand_i _ _ | exact zor_i _ _ | exact zxor_i _ _ | exact zN _ | omega) (by exact ht) (by exact h35) (by
                                        rw [show (k + 1).toNat = k.toNat + 1 by omega]
                                        show _ = (hSt _ _ NS ((k.toNat : Nat) : Int) _).1
                                        rw [show ((k.toNat : Nat) : Int) = k by omega, ← hl, ← hSS, ← hT, hGo_0 heq]) (by
                                        exact fun j j0 j1 => by
                                          by_cases q : j = k
                                          · rw [q, hpk]
                                            unfold hPn
                                            rw [← hl, ← hSS, ← hT, hGo_0 heq]
                                          · exact hp j j0 (by omega)) (by omega)
                                  · have hne : hTb 1000000000 (aK (A 0 1023) (A 2)) NS (NS - 1 - k).toNat l2 ≠ hTb 1000000000 (aK (A 0 1023) (A 2)) NS (NS - k).toNat l2 := by rw [← htu, ← htc]; assumption
                                    have hl0 : 0 < l2 := by
                                                                          refine Classical.byContradiction fun q => hne ?_
                                                                          rw [show l2 = 0 by omega, hTb_0 (by omega), hTb_0 (by omega)]
                                    obtain ⟨f, rfl⟩ : ∃ g, f = g + 1 := ⟨f - 1, by omega⟩
                                    have hT9 := hT
                                    rw [hGo_1 hne] at hT9
                                    refine zT.iconst dX1_hotel_313 ?_
                                    refine zT.iload 6 dX1_hotel_314 rfl ?_
                                    refine zT.aload_n 0 dX1_hotel_316 rfl rfl ?_
                                    refine zT.getR dX1_hotel_317 fX1_66 rfl (zPan.k hR.sh) (j := 7) (by decide) rfl ?_
                                    have r317 : mB x 7 = m x 7 := by rw [hz _ _ (by omega) (by omega) (by omega)]
                                    rw [r317]
                                    refine zT.getF dX1_hotel_320 fX1_261 rfl (zKit.k hR.ki.2.1.1) (j := 5) (by decide) rfl (zKit.f205 hR.ki.2.1.1) ?_
                                    refine zT.iload 7 dX1_hotel_323 rfl ?_
                                    refine zT.iald dX1_hotel_325 (zKit.a205 hR.ki.2.1.1) (by first | assumption | exact zq_i _ | exact zand_i _ _ | exact zor_i _ _ | exact zxor_i _ _ | exact zN _ | omega) (by rw [(zKit.n205 hR.ki.2.1.1)]; first | assumption | exact zq_i _ | exact zand_i _ _ | exact zor_i _ _ | exact zxor_i _ _ | exact zN _ | omega) (fun z325 => ?_)
                                    have r325 : mB ((m x 7) + 6) k = m ((m x 7) + 6) k := by rw [hz _ _ (by omega) (by omega) (by omega)]
                                    rw [r325] at z325 ⊢
                                    rw [hks.1]
                                    show zT G _ _ _ _ [zI ((aK (A 0 1023) (A 2)) (48 + 2 * k + 0)), zI l2, zI 0] _ _ _ _ _ _
                                    refine zT.isub dX1_hotel_326 ?_
                                    refine zT.mmax dX1_hotel_327 q1010 (by first | assumption | exact zq_i _ | exact zand_i _ _ | exact zor_i _ _ | exact zxor_i _ _ | exact zN _ | omega) (by first | assumption | exact zq_i _ | exact zand_i _ _ | exact zor_i _ _ | exact zxor_i _ _ | exact zN _ | omega) (by decide) (by decide) ?_
                                    refine zT.istore 6 dX1_hotel_330 (by decide) (zpre1 rfl (zcI _)) ?_
                                    show zT G _ _ _ [zR x, zI n, zI u, zI a, zU, zI need, zI (max 0 (l2 - ((aK (A 0 1023) (A 2)) (48 + 2 * k + 0)))), zI k, zU] _ _ _ _ _ _ _
                                    refine zT.aload_n 0 dX1_hotel_332 rfl rfl ?_
                                    refine zT.getF dX1_hotel_333 fX1_162 rfl (zPan.k hR.sh) (j := 33) (by decide) rfl (zPan.f33 hR.sh) ?_
                                    refine zT.iload 7 dX1_hotel_336 rfl ?_
                                    refine zT.dup2 dX1_hotel_338 (zcI _) (zcR _) ?_
                                    refine zT.iald dX1_hotel_339 (zPan.a33 hR.sh) (by first | assumption | exact zq_i _ | exact zand_i _ _ | exact zor_i _ _ | exact zxor_i _ _ | exact zN _ | omega) (by rw [(zPan.n33 hR.sh)]; first | assumption | exact zq_i _ | exact zand_i _ _ | exact zor_i _ _ | exact zxor_i _ _ | exact zN _ | omega) (fun z339 => ?_)
                                    refine zT.iconst dX1_hotel_340 ?_
                                    refine zT.iadd dX1_hotel_341 ?_
                                    refine zT.iast dX1_hotel_342 (zPan.a33 hR.sh) (by first | assumption | exact zq_i _ | exact zand_i _ _ | exact zor_i _ _ | exact zxor_i _ _ | exact zN _ | omega) (by rw [(zPan.n33 hR.sh)]; first | assumption | exact zq_i _ | exact zand_i _ _ | exact zor_i _ _ | exact zxor_i _ _ | exact zN _ | omega) (by first | assumption | exact zq_i _ | exact zand_i _ _ | exact zor_i _ _ | exact zxor_i _ _ | exact zN _ | omega) ?_
                                    obtain ⟨m3, em3⟩ : ∃ z, z = zup mB (x + 46) k ((mB (x + 46) k) + 1) := ⟨_, rfl⟩
                                    rw [← em3]
                                    refine zT.goto (tgt := 280) dX1_hotel_343 (by decide) ?_
                                    exact ih280 _ _ (p + 1) f (by rw [em3]; exact hz.up (by omega)) (by exact fun r w r0 r1 w0 w1 => by rw [em3, zup_ne (by omega)]; exact ht r w r0 r1 w0 w1) (by rw [em3, zup_ne (by omega)]; exact h35) (by exact fun j j0 j1 => by rw [em3, zup_ne (by omega)]; exact hp j j0 j1) (by rw [em3, zup_at, hpk]) (by omega) (by omega) (by omega) (by exact hT9) (by omega)
                              exact L280 _ _ _ 0 201 (by rw [em2]; exact hz.up (by omega)) (by exact fun r w r0 r1 w0 w1 => by rw [em2, zup_ne (by omega)]; exact ht r w r0 r1 w0 w1) (by rw [em2, zup_ne (by omega)]; exact h35) (by exact fun j j0 j1 => by rw [em2, zup_ne (by omega)]; exact hp j j0 j1) (by rw [em2, zup_at]) (by omega) (by omega) (by omega) (by exact hSS.symm) (Nat.lt_succ_self _)
                        exact L260 _ _ _ _ (by rw [em1]; exact hz.up (by omega)) (by first | assumption | exact zq_i _ | exact zand_i _ _ | exact zor_i _ _ | exact zxor_i _ _ | exact zN _ | omega) (by first | assumption | exact zq_i _ | exact zand_i _ _ | exact zor_i _ _ | exact zxor_i _ _ | exact zN _ | omega) (by exact fun r w r0 r1 w0 w1 => by rw [em1, zup_ne (by omega)]; exact ht r w (by omega) r1 w0 w1) (by rw [em1, zup_at]; omega) (by rfl) (by exact fun j a b => by omega) (Nat.lt_succ_self _)
                      · refine zT.iconst dX1_hotel_132 ?_
                        refine zT.istore 7 dX1_hotel_133 (by decide) (zpre1 rfl (zcI _)) ?_
                        show zT G _ _ _ [zR x, zI n, zI u, zI a, zU, zI need, zI k, zI 0, zU] _ _ _ _ _ _ _
                        have L135 : ∀ (N : Nat) (mB : zMm) (v : Int), (zHo x m mB) → (0 ≤ v) → (v ≤ need + 1) → (∀ r w, k < r → r ≤ NS → 0 ≤ w → w ≤ need → mB (x + 47) (401 * r + w) = hTb 1000000000 (aK (A 0 1023) (A 2)) NS (NS - r).toNat w) → (∀ w, 0 ≤ w → w < v → mB (x + 47) (401 * k + w) = hTb 1000000000 (aK (A 0 1023) (A 2)) NS (NS - k).toNat w) → ((need + 1 - v).toNat) < N → zT G mX1_hotel 2 135 [zR x, zI n, zI u, zI a, zU, zI need, zI k, zI v, zU] [] S mB 0 0 Q9 zNX := by
                          intro N
                          induction N with
                          | zero => intro mB v hz v0 v1 ht hu hN; exact absurd hN (Nat.not_lt_zero _)
                          | succ N ih135 =>
                            intro mB v hz v0 v1 ht hu hN
                            have hkk := hk.2.2.2 k (by omega) (by omega)
                            have hk1k := hkk.2.2.2.2 (by omega)
                            have hks := hkr.2.2.2.2 k (by omega) (by omega)
                            obtain ⟨j9, hj9⟩ : ∃ j : Nat, (NS - k).toNat = j + 1 := ⟨(NS - 1 - k).toNat, by omega⟩
                            have ej9 : NS - 1 - (j9 : Int) = k := by omega
                            have ej8 : (NS - (k + 1)).toNat = j9 := by omega
                            have hup := ht (k + 1) v (by omega) (by omega) v0
                            refine zT.iload 7 dX1_hotel_135 rfl ?_
                            refine zT.iload 5 dX1_hotel_137 rfl ?_
                            refine zT.ic_gt (tgt := 236) dX1_hotel_139 (by decide) (by first | assumption | exact zq_i _ | exact zand_i _ _ | exact zor_i _ _ | exact zxor_i _ _ | exact zN _ | omega) (by first | assumption | exact zq_i _ | exact zand_i _ _ | exact zor_i _ _ | exact zxor_i _ _ | exact zN _ | omega) (fun c139 => ?_) (fun c139 => ?_)
                            · refine zT.iinc 6 dX1_hotel_236 rfl (by decide) (zpre1 rfl (zcI _)) ?_
                              show zT G _ _ _ [zR x, zI n, zI u, zI a, zU, zI need, zI (k + (-1)), zI v, zU] _ _ _ _ _ _ _
                              refine zT.goto (tgt := 127) dX1_hotel_239 (by decide) ?_
                              refine zT.loc (V' := [zR x, zI n, zI u, zI a, zU, zI need, zI (k + (-1)), zU, zU]) ?_ ⟨Or.inr rfl, Or.inr rfl, Or.inr rfl, Or.inr rfl, Or.inr rfl, Or.inr rfl, Or.inr rfl, Or.inl rfl, Or.inr rfl, trivial⟩
                              exact ih127 _ _ (by exact hz) (by omega) (by omega) (by
                                  exact fun r w r0 r1 w0 w1 => by
                                    by_cases q : r = k
                                    · rw [q]; exact hu w w0 (by omega)
                                    · exact ht r w (by omega) r1 w0 w1) (by omega)
                            · refine zT.iload 7 dX1_hotel_142 rfl ?_
                              refine zT.if_ne (tgt := 153) dX1_hotel_144 (by decide) (by first | assumption | exact zq_i _ | exact zand_i _ _ | exact zor_i _ _ | exact zxor_i _ _ | exact zN _ | omega) (fun c144 => ?_) (fun c144 => ?_)
                              · refine zT.aload_n 0 dX1_hotel_153 rfl rfl ?_
                                refine zT.getF dX1_hotel_154 fX1_165 rfl (zPan.k hR.sh) (j := 34) (by decide) rfl (zPan.f34 hR.sh) ?_
                                refine zT.sipush dX1_hotel_157 ?_
                                refine zT.iload 6 dX1_hotel_160 rfl ?_
                                refine zT.imul dX1_hotel_162 ?_
                                refine zT.iconst dX1_hotel_163 ?_
                                refine zT.iload 7 dX1_hotel_164 rfl ?_
                                refine zT.aload_n 0 dX1_hotel_166 rfl rfl ?_
                                refine zT.getR dX1_hotel_167 fX1_66 rfl (zPan.k hR.sh) (j := 7) (by decide) rfl ?_
                                have r167 : mB x 7 = m x 7 := by rw [hz _ _ (by omega) (by omega) (by omega)]
                                rw [r167]
                                refine zT.getF dX1_hotel_170 fX1_261 rfl (zKit.k hR.ki.2.1.1) (j := 5) (by decide) rfl (zKit.f205 hR.ki.2.1.1) ?_
                                refine zT.iload 6 dX1_hotel_173 rfl ?_
                                refine zT.iald dX1_hotel_175 (zKit.a205 hR.ki.2.1.1) (by first | assumption | exact zq_i _ | exact zand_i _ _ | exact zor_i _ _ | exact zxor_i _ _ | exact zN _ | omega) (by rw [(zKit.n205 hR.ki.2.1.1)]; first | assumption | exact zq_i _ | exact zand_i _ _ | exact zor_i _ _ | exact zxor_i _ _ | exact zN _ | omega) (fun z175 => ?_)
                                have r175 : mB ((m x 7) + 6) k = m ((m x 7) + 6) k := by rw [hz _ _ (by omega) (by omega) (by omega)]
                                rw [r175] at z175 ⊢
                                rw [hks.1]
                                show zT G _ _ _ _ [zI ((aK (A 0 1023) (A 2)) (48 + 2 * k + 0)), zI v, zI 0, zI (401 * k), zR (x + 47)] _ _ _ _ _ _
                                refine zT.isub dX1_hotel_176 ?_
                                refine zT.mmax dX1_hotel_177 q1010 (by first | assumption | exact zq_i _ | exact zand_i _ _ | exact zor_i _ _ | exact zxor_i _ _ | exact zN _ | omega) (by first | assumption | exact zq_i _ | exact zand_i _ _ | exact zor_i _ _ | exact zxor_i _ _ | exact zN _ | omega) (by decide) (by simp only [List.map, zcI, zcJ, zcR, List.sum_cons, List.sum_nil]; decide) ?_
                                refine zT.iadd dX1_hotel_180 ?_
                                refine zT.iald dX1_hotel_181 (zPan.a34 hR.sh) (by first | assumption | exact zq_i _ | exact zand_i _ _ | exact zor_i _ _ | exact zxor_i _ _ | exact zN _ | omega) (by rw [(zPan.n34 hR.sh)]; first | assumption | exact zq_i _ | exact zand_i _ _ | exact zor_i _ _ | exact zxor_i _ _ | exact zN _ | omega) (fun z181 => ?_)
                                have hw1 := hu (max 0 (v - (aK (A 0 1023) (A 2)) (48 + 2 * k + 0))) (by omega) (by omega)
                                have hw2 := hTb_F (F := 1000000000) (G := 1000000000) hk hNS (by omega) (by omega) (NS - k).toNat (by omega) (by omega) (max 0 (v - (aK (A 0 1023) (A 2)) (48 + 2 * k + 0))) (by omega) (by omega)
                                rw [← hw1] at hw2
                                refine zT.aload_n 0 dX1_hotel_182 rfl rfl ?_
                                refine zT.getR dX1_hotel_183 fX1_66 rfl (zPan.k hR.sh) (j := 7) (by decide) rfl ?_
                                have r183 : mB x 7 = m x 7 := by rw [hz _ _ (by omega) (by omega) (by omega)]
                                rw [r183]
                                refine zT.getF dX1_hotel_186 fX1_264 rfl (zKit.k hR.ki.2.1.1) (j := 6) (by decide) rfl (zKit.f206 hR.ki.2.1.1) ?_
                                refine zT.iload 6 dX1_hotel_189 rfl ?_
                                refine zT.iald dX1_hotel_191 (zKit.a206 hR.ki.2.1.1) (by first | assumption | exact zq_i _ | exact zand_i _ _ | exact zor_i _ _ | exact zxor_i _ _ | exact zN _ | omega) (by rw [(zKit.n206 hR.ki.2.1.1)]; first | assumption | exact zq_i _ | exact zand_i _ _ | exact zor_i _ _ | exact zxor_i _ _ | exact zN _ | omega) (fun z191 => ?_)
                                have r191 : mB ((m x 7) + 7) k = m ((m x 7) + 7) k := by rw [hz _ _ (by omega) (by omega) (by omega)]
                                rw [r191] at z191 ⊢
                                rw [hks.2]
                                show zT G _ _ _ _ [zI ((aK (A 0 1023) (A 2)) (48 + 2 * k + 1)), zI (mB (x + 47) ((401 * k) + (max 0 (v - ((aK (A 0 1023) (A 2)) (48 + 2 * k + 0))))))] _ _ _ _ _ _
                                refine zT.iadd dX1_hotel_192 ?_
                                refine zT.istore 8 dX1_hotel_193 (by decide) (zpre1 rfl (zcI _)) ?_
                                show zT G _ _ _ [zR x, zI n, zI u, zI a, zU, zI need, zI k, zI v, zI ((mB (x + 47) ((401 * k) + (max 0 (v - ((aK (A 0 1023) (A 2)) (48 + 2 * k + 0)))))) + ((aK (A 0 1023) (A 2)) (48 + 2 * k + 1)))] _ _ _ _ _ _ _
                                refine zT.aload_n 0 dX1_hotel_195 rfl rfl ?_
                                refine zT.getF dX1_hotel_196 fX1_165 rfl (zPan.k hR.sh) (j := 34) (by decide) rfl (zPan.f34 hR.sh) ?_
                                refine zT.sipush dX1_hotel_199 ?_
                                refine zT.iload 6 dX1_hotel_202 rfl ?_
                                refine zT.imul dX1_hotel_204 ?_
                                refine zT.iload 7 dX1_hotel_205 rfl ?_
                                refine zT.iadd dX1_hotel_207 ?_
                                refine zT.aload_n 0 dX1_hotel_208 rfl rfl ?_
                                refine zT.getF dX1_hotel_209 fX1_165 rfl (zPan.k hR.sh) (j := 34) (by decide) rfl (zPan.f34 hR.sh) ?_
                                refine zT.sipush dX1_hotel_212 ?_
                                refine zT.iload 6 dX1_hotel_215 rfl ?_
                                refine zT.iconst dX1_hotel_217 ?_
                                refine zT.iadd dX1_hotel_218 ?_
                                refine zT.imul dX1_hotel_219 ?_
                                refine zT.iload 7 dX1_hotel_220 rfl ?_
                                refine zT.iadd dX1_hotel_222 ?_
                                refine zT.iald dX1_hotel_223 (zPan.a34 hR.sh) (by first | assumption | exact zq_i _ | exact zand_i _ _ | exact zor_i _ _ | exact zxor_i _ _ | exact zN _ | omega) (by rw [(zPan.n34 hR.sh)]; first | assumption | exact zq_i _ | exact zand_i _ _ | exact zor_i _ _ | exact zxor_i _ _ | exact zN _ | omega) (fun z223 => ?_)
                                refine zT.iload 8 dX1_hotel_224 rfl ?_
                                refine zT.mmin dX1_hotel_226 q1021 (by first | assumption | exact zq_i _ | exact zand_i _ _ | exact zor_i _ _ | exact zxor_i _ _ | exact zN _ | omega) (by first | assumption | exact zq_i _ | exact zand_i _ _ | exact zor_i _ _ | exact zxor_i _ _ | exact zN _ | omega) (by decide) (by simp only [List.map, zcI, zcJ, zcR, List.sum_cons, List.sum_nil]; decide) ?_
                                refine zT.iast dX1_hotel_229 (zPan.a34 hR.sh) (by first | assumption | exact zq_i _ | exact zand_i _ _ | exact zor_i _ _ | exact zxor_i _ _ | exact zN _ | omega) (by rw [(zPan.n34 hR.sh)]; first | assumption | exact zq_i _ | exact zand_i _ _ | exact zor_i _ _ | exact zxor_i _ _ | exact zN _ | omega) (by first | assumption | exact zq_i _ | exact zand_i _ _ | exact zor_i _ _ | exact zxor_i _ _ | exact zN _ | omega) ?_
                                obtain ⟨m4, em4⟩ : ∃ z, z = zup mB (x + 47) ((401 * k) + v) (min (mB (x + 47) ((401 * (k + 1)) + v)) ((mB (x + 47) ((401 * k) + (max 0 (v - ((aK (A 0 1023) (A 2)) (48 + 2 * k + 0)))))) + ((aK (A 0 1023) (A 2)) (48 + 2 * k + 1)))) := ⟨_, rfl⟩
                                rw [← em4]
                                have hst : min (mB (x + 47) ((401 * (k + 1)) + v)) ((mB (x + 47) ((401 * k) + (max 0 (v - ((aK (A 0 1023) (A 2)) (48 + 2 * k + 0)))))) + ((aK (A 0 1023) (A 2)) (48 + 2 * k + 1))) = hTb 1000000000 (aK (A 0 1023) (A 2)) NS (NS - k).toNat v := by
                                  rw [hj9]
                                  by_cases q : v = 0
                                  · first
                                      | (exfalso; omega)
                                      | (have h0 := hup (by omega)
                                         rw [ej8] at h0
                                         rw [q] at h0 ⊢
                                         rw [hTb_z, ← h0])
                                  · first
                                      | (exfalso; omega)
                                      | (have h0 := hup (by omega)
                                         have h1 := hu (max 0 (v - (aK (A 0 1023) (A 2)) (48 + 2 * k + 0))) (by omega) (by omega)
                                         rw [ej8] at h0
                                         rw [hj9] at h1
                                         rw [hTb_s (by rw [ej9]; omega) (by omega), ej9, ← h0, ← h1])
                                refine zT.iinc 7 dX1_hotel_230 rfl (by decide) (zpre1 rfl (zcI _)) ?_
                                show zT G _ _ _ [zR x, zI n, zI u, zI a, zU, zI need, zI k, zI (v + 1), zI ((mB (x + 47) ((401 * k) + (max 0 (v - ((aK (A 0 1023) (A 2)) (48 + 2 * k + 0)))))) + ((aK (A 0 1023) (A 2)) (48 + 2 * k + 1)))] _ _ _ _ _ _ _
                                refine zT.goto (tgt := 135) dX1_hotel_233 (by decide) ?_
                                refine zT.loc (V' := [zR x, zI n, zI u, zI a, zU, zI need, zI k, zI (v + 1), zU]) ?_ ⟨Or.inr rfl, Or.inr rfl, Or.inr rfl, Or.inr rfl, Or.inr rfl, Or.inr rfl, Or.inr rfl, Or.inr rfl, Or.inl rfl, trivial⟩
                                exact ih135 _ _ (by rw [em4]; exact hz.up (by omega)) (by omega) (by omega) (by exact fun r w r0 r1 w0 w1 => by rw [em4, zup_ne (by omega)]; exact ht r w r0 r1 w0 w1) (by
                                    exact fun w w0 w1 => by
                                      by_cases q : w = v
                                      · rw [q, em4, zup_at]
                                        exact hst
                                      · rw [em4, zup_ne (by omega)]
                                        exact hu w w0 (by omega)) (by omega)
                              · refine zT.ldcw 1000000000 q1028 (by decide +kernel) dX1_hotel_147 ?_
                                refine zT.goto (tgt := 193) dX1_hotel_150 (by decide) ?_
                                refine zT.istore 8 dX1_hotel_193 (by decide) (zpre1 rfl (zcI _)) ?_
                                show zT G _ _ _ [zR x, zI n, zI u, zI a, zU, zI need, zI k, zI v, zI 1000000000] _ _ _ _ _ _ _
                                refine zT.aload_n 0 dX1_hotel_195 rfl rfl ?_
                                refine zT.getF dX1_hotel_196 fX1_165 rfl (zPan.k hR.sh) (j := 34) (by decide) rfl (zPan.f34 hR.sh) ?_
                                refine zT.sipush dX1_hotel_199 ?_
                                refine zT.iload 6 dX1_hotel_202 rfl ?_
                                refine zT.imul dX1_hotel_204 ?_
                                refine zT.iload 7 dX1_hotel_205 rfl ?_
                                refine zT.iadd dX1_hotel_207 ?_
                                refine zT.aload_n 0 dX1_hotel_208 rfl rfl ?_
                                refine zT.getF dX1_hotel_209 fX1_165 rfl (zPan.k hR.sh) (j := 34) (by decide) rfl (zPan.f34 hR.sh) ?_
                                refine zT.sipush dX1_hotel_212 ?_
                                refine zT.iload 6 dX1_hotel_215 rfl ?_
                                refine zT.iconst dX1_hotel_217 ?_
                                refine zT.iadd dX1_hotel_218 ?_
                                refine zT.imul dX1_hotel_219 ?_
                                refine zT.iload 7 dX1_hotel_220 rfl ?_
                                refine zT.iadd dX1_hotel_222 ?_
                                refine zT.iald dX1_hotel_223 (zPan.a34 hR.sh) (by first | assumption | exact zq_i _ | exact zand_i _ _ | exact zor_i _ _ | exact zxor_i _ _ | exact zN _ | omega) (by rw [(zPan.n34 hR.sh)]; first | assumption | exact zq_i _ | exact zand_i _ _ | exact zor_i _ _ | exact zxor_i _ _ | exact zN _ | omega) (fun z223 => ?_)
                                refine zT.iload 8 dX1_hotel_224 rfl ?_
                                refine zT.mmin dX1_hotel_226 q1021 (by first | assumption | exact zq_i _ | exact zand_i _ _ | exact zor_i _ _ | exact zxor_i _ _ | exact zN _ | omega) (by first | assumption | exact zq_i _ | exact zand_i _ _ | exact zor_i _ _ | exact zxor_i _ _ | exact zN _ | omega) (by decide) (by simp only [List.map, zcI, zcJ, zcR, List.sum_cons, List.sum_nil]; decide) ?_
                                refine zT.iast dX1_hotel_229 (zPan.a34 hR.sh) (by first | assumption | exact zq_i _ | exact zand_i _ _ | exact zor_i _ _ | exact zxor_i _ _ | exact zN _ | omega) (by rw [(zPan.n34 hR.sh)]; first | assumption | exact zq_i _ | exact zand_i _ _ | exact zor_i _ _ | exact zxor_i _ _ | exact zN _ | omega) (by first | assumption | exact zq_i _ | exact zand_i _ _ | exact zor_i _ _ | exact zxor_i _ _ | exact zN _ | omega) ?_
                                obtain ⟨m5, em5⟩ : ∃ z, z = zup mB (x + 47) ((401 * k) + v) (min (mB (x + 47) ((401 * (k + 1)) + v)) 1000000000) := ⟨_, rfl⟩
                                rw [← em5]
                                have hst : min (mB (x + 47) ((401 * (k + 1)) + v)) 1000000000 = hTb 1000000000 (aK (A 0 1023) (A 2)) NS (NS - k).toNat v := by
                                  rw [hj9]
                                  by_cases q : v = 0
                                  · first
                                      | (exfalso; omega)
                                      | (have h0 := hup (by omega)
                                         rw [ej8] at h0
                                         rw [q] at h0 ⊢
                                         rw [hTb_z, ← h0])
                                  · first
                                      | (exfalso; omega)
                                      | (have h0 := hup (by omega)
                                         have h1 := hu (max 0 (v - (aK (A 0 1023) (A 2)) (48 + 2 * k + 0))) (by omega) (by omega)
                                         rw [ej8] at h0
                                         rw [hj9] at h1
                                         rw [hTb_s (by rw [ej9]; omega) (by omega), ej9, ← h0, ← h1])
                                refine zT.iinc 7 dX1_hotel_230 rfl (by decide) (zpre1 rfl (zcI _)) ?_
                                show zT G _ _ _ [zR x, zI n, zI u, zI a, zU, zI need, zI k, zI (v + 1), zI 1000000000] _ _ _ _ _ _ _
                                refine zT.goto (tgt := 135) dX1_hotel_233 (by decide) ?_
                                refine zT.loc (V' := [zR x, zI n, zI u, zI a, zU, zI need, zI k, zI (v + 1), zU]) ?_ ⟨Or.inr rfl, Or.inr rfl, Or.inr rfl, Or.inr rfl, Or.inr rfl, Or.inr rfl, Or.inr rfl, Or.inr rfl, Or.inl rfl, trivial⟩
                                exact ih135 _ _ (by rw [em5]; exact hz.up (by omega)) (by omega) (by omega) (by exact fun r w r0 r1 w0 w1 => by rw [em5, zup_ne (by omega)]; exact ht r w r0 r1 w0 w1) (by
                                    exact fun w w0 w1 => by
                                      by_cases q : w = v
                                      · rw [q, em5, zup_at]
                                        exact hst
                                      · rw [em5, zup_ne (by omega)]
                                        exact hu w w0 (by omega)) (by omega)
                        exact L135 _ _ _ (by exact hz) (by first | assumption | exact zq_i _ | exact zand_i _ _ | exact zor_i _ _ | exact zxor_i _ _ | exact zN _ | omega) (by first | assumption | exact zq_i _ | exact zand_i _ _ | exact zor_i _ _ | exact zxor_i _ _ | exact zN _ | omega) (by exact ht) (by exact fun w a b => by omega) (Nat.lt_succ_self _)
                  exact L127 _ _ _ (by exact hz) (by omega) (by omega) (by
                      exact fun r w r0 r1 w0 w1 => by
                        obtain rfl : r = NS := by omega
                        rw [show (r - r).toNat = 0 by omega]
                        exact ht w w0 (by omega)) (Nat.lt_succ_self _)
                · refine zT.aload_n 0 dX1_hotel_79 rfl rfl ?_
                  refine zT.getF dX1_hotel_80 fX1_165 rfl (zPan.k hR.sh) (j := 34) (by decide) rfl (zPan.f34 hR.sh) ?_
                  refine zT.sipush dX1_hotel_83 ?_
                  refine zT.aload_n 0 dX1_hotel_86 rfl rfl ?_
                  refine zT.getR dX1_hotel_87 fX1_66 rfl (zPan.k hR.sh) (j := 7) (by decide) rfl ?_
                  have r87 : mA x 7 = m x 7 := by rw [hz _ _ (by omega) (by omega) (by omega)]
                  rw [r87]
                  refine zT.getI dX1_hotel_90 fX1_258 rfl (zKit.k hR.ki.2.1.1) (j := 10) (by decide) rfl (fun z90 => ?_)
                  have r90 : mA (m x 7) 210 = m (m x 7) 210 := by rw [hz _ _ (by omega) (by omega) (by omega)]
                  rw [r90] at z90 ⊢
                  refine zT.imul dX1_hotel_93 ?_
                  refine zT.iload 6 dX1_hotel_94 rfl ?_
                  refine zT.iadd dX1_hotel_96 ?_
                  refine zT.iload 6 dX1_hotel_97 rfl ?_
                  refine zT.if_ne (tgt := 106) dX1_hotel_99 (by decide) (by first | assumption | exact zq_i _ | exact zand_i _ _ | exact zor_i _ _ | exact zxor_i _ _ | exact zN _ | omega) (fun c99 => ?_) (fun c99 => ?_)
                  · refine zT.ldcw 1000000000 q1028 (by decide +kernel) dX1_hotel_106 ?_
                    refine zT.iast dX1_hotel_109 (zPan.a34 hR.sh) (by first | assumption | exact zq_i _ | exact zand_i _ _ | exact zor_i _ _ | exact zxor_i _ _ | exact zN _ | omega) (by rw [(zPan.n34 hR.sh)]; first | assumption | exact zq_i _ | exact zand_i _ _ | exact zor_i _ _ | exact zxor_i _ _ | exact zN _ | omega) (by first | assumption | exact zq_i _ | exact zand_i _ _ | exact zor_i _ _ | exact zxor_i _ _ | exact zN _ | omega) ?_
                    obtain ⟨m6, em6⟩ : ∃ z, z = zup mA (x + 47) ((401 * (m (m x 7) 210)) + v) 1000000000 := ⟨_, rfl⟩
                    rw [← em6]
                    refine zT.iinc 6 dX1_hotel_110 rfl (by decide) (zpre1 rfl (zcI _)) ?_
                    show zT G _ _ _ [zR x, zI n, zI u, zI a, zU, zI need, zI (v + 1), zU, zU] _ _ _ _ _ _ _
                    refine zT.goto (tgt := 72) dX1_hotel_113 (by decide) ?_
                    exact ih72 _ _ (by rw [em6]; exact hz.up (by omega)) (by omega) (by omega) (by
                        exact fun w w0 w1 => by
                          by_cases q : w = v
                          · rw [q, em6, zup_ae (by omega)]
                            show _ = if v = 0 then 0 else 1000000000
                            first | rw [if_pos (by omega)] | rw [if_neg (by omega)]
                          · rw [em6, zup_ne (by omega)]
                            exact ht w w0 (by omega)) (by omega)
                  · refine zT.iconst dX1_hotel_102 ?_
                    refine zT.goto (tgt := 109) dX1_hotel_103 (by decide) ?_
                    refine zT.iast dX1_hotel_109 (zPan.a34 hR.sh) (by first | assumption | exact zq_i _ | exact zand_i _ _ | exact zor_i _ _ | exact zxor_i _ _ | exact zN _ | omega) (by rw [(zPan.n34 hR.sh)]; first | assumption | exact zq_i _ | exact zand_i _ _ | exact zor_i _ _ | exact zxor_i _ _ | exact zN _ | omega) (by first | assumption | exact zq_i _ | exact zand_i _ _ | exact zor_i _ _ | exact zxor_i _ _ | exact zN _ | omega) ?_
                    obtain ⟨m7, em7⟩ : ∃ z, z = zup mA (x + 47) ((401 * (m (m x 7) 210)) + v) 0 := ⟨_, rfl⟩
                    rw [← em7]
                    refine zT.iinc 6 dX1_hotel_110 rfl (by decide) (zpre1 rfl (zcI _)) ?_
                    show zT G _ _ _ [zR x, zI n, zI u, zI a, zU, zI need, zI (v + 1), zU, zU] _ _ _ _ _ _ _
                    refine zT.goto (tgt := 72) dX1_hotel_113 (by decide) ?_
                    exact ih72 _ _ (by rw [em7]; exact hz.up (by omega)) (by omega) (by omega) (by
                        exact fun w w0 w1 => by
                          by_cases q : w = v
                          · rw [q, em7, zup_ae (by omega)]
                            show _ = if v = 0 then 0 else 1000000000
                            first | rw [if_pos (by omega)] | rw [if_neg (by omega)]
                          · rw [em7, zup_ne (by omega)]
                            exact ht w w0 (by omega)) (by omega)
            refine zT.loc (V' := [zR x, zI n, zI u, zI a, zU, zI need, zI 0, zU, zU]) ?_ ⟨Or.inr rfl, Or.inr rfl, Or.inr rfl, Or.inr rfl, Or.inl rfl, Or.inr rfl, Or.inr rfl, Or.inr rfl, Or.inr rfl, trivial⟩
            exact L72 _ _ _ (by exact zHo.rf) (by first | assumption | exact zq_i _ | exact zand_i _ _ | exact zor_i _ _ | exact zxor_i _ _ | exact zN _ | omega) (by first | assumption | exact zq_i _ | exact zand_i _ _ | exact zor_i _ _ | exact zxor_i _ _ | exact zN _ | omega) (by exact fun w a b => by omega) (Nat.lt_succ_self _)
          · refine zT.iconst dX1_hotel_49 ?_
            refine zT.iret dX1_hotel_50 rfl ?_
            rw [eQ9]
            rw [if_neg (by omega), if_neg (by omega)]
            exact ⟨rfl, zGr.rf, hR, zOut.rf⟩

