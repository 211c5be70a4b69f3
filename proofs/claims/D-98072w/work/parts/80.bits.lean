/-! bits: bitCount, bits, isMinute, mayBe (written by gen/m_bits.py) -/
/-- how many bits of a number below 1024 -/
def fPc (a : Int) : Int := a % 2 + a / 2 % 2 + a / 4 % 2 + a / 8 % 2 + a / 16 % 2 + a / 32 % 2 + a / 64 % 2 + a / 128 % 2 + a / 256 % 2 + a / 512 % 2
theorem fPc_b {a : Int} : 0 ≤ fPc a ∧ fPc a ≤ 10 := by unfold fPc; omega
theorem fPc_s : ∀ s : Fin 1024, s.val ≠ 0 → fPc (zand (s.val : Int) ((s.val : Int) - 1)) = fPc (s.val : Int) - 1 ∧ 0 ≤ zand (s.val : Int) ((s.val : Int) - 1) ∧ zand (s.val : Int) ((s.val : Int) - 1) < (s.val : Int) := by decide +kernel
theorem fPc_i {s : Int} (h0 : 0 < s) (h1 : s < 1024) : fPc (zand s (s - 1)) = fPc s - 1 ∧ 0 ≤ zand s (s - 1) ∧ zand s (s - 1) < s := by
  have q := fPc_s ⟨s.toNat, by omega⟩ (by show s.toNat ≠ 0; omega)
  simp only [z_nat (show 0 ≤ s by omega)] at q
  exact q
/-- no slice has both its sides in the set -/
abbrev fPr (a : Int) : Prop := a % 4 ≠ 3 ∧ a / 4 % 4 ≠ 3 ∧ a / 16 % 4 ≠ 3 ∧ a / 64 % 4 ≠ 3 ∧ a / 256 % 4 ≠ 3
theorem fPr_s : ∀ a : Fin 1024, (zand (zand (a.val : Int) ((a.val : Int) / 2 ^ (1 : Int).toNat)) 341 = 0 ↔ fPr (a.val : Int)) := by decide +kernel
theorem fPr_i {s : Int} (h0 : 0 ≤ s) (h1 : s < 1024) : zand (zand s (s / 2 ^ (1 : Int).toNat)) 341 = 0 ↔ fPr s := by
  have q := fPr_s ⟨s.toNat, by omega⟩
  simp only [z_nat h0] at q
  exact q
theorem fBc_s : ∀ a : Fin 1024, zand (((zand (((zand ((a.val : Int) - (zand ((a.val : Int) % 4294967296 / 2 ^ (1 : Int).toNat) 1431655765)) 858993459) + (zand (((a.val : Int) - (zand ((a.val : Int) % 4294967296 / 2 ^ (1 : Int).toNat) 1431655765)) % 4294967296 / 2 ^ (2 : Int).toNat) 858993459)) + (((zand ((a.val : Int) - (zand ((a.val : Int) % 4294967296 / 2 ^ (1 : Int).toNat) 1431655765)) 858993459) + (zand (((a.val : Int) - (zand ((a.val : Int) % 4294967296 / 2 ^ (1 : Int).toNat) 1431655765)) % 4294967296 / 2 ^ (2 : Int).toNat) 858993459)) % 4294967296 / 2 ^ (4 : Int).toNat)) 252645135) + ((zand (((zand ((a.val : Int) - (zand ((a.val : Int) % 4294967296 / 2 ^ (1 : Int).toNat) 1431655765)) 858993459) + (zand (((a.val : Int) - (zand ((a.val : Int) % 4294967296 / 2 ^ (1 : Int).toNat) 1431655765)) % 4294967296 / 2 ^ (2 : Int).toNat) 858993459)) + (((zand ((a.val : Int) - (zand ((a.val : Int) % 4294967296 / 2 ^ (1 : Int).toNat) 1431655765)) 858993459) + (zand (((a.val : Int) - (zand ((a.val : Int) % 4294967296 / 2 ^ (1 : Int).toNat) 1431655765)) % 4294967296 / 2 ^ (2 : Int).toNat) 858993459)) % 4294967296 / 2 ^ (4 : Int).toNat)) 252645135) % 4294967296 / 2 ^ (8 : Int).toNat)) + (((zand (((zand ((a.val : Int) - (zand ((a.val : Int) % 4294967296 / 2 ^ (1 : Int).toNat) 1431655765)) 858993459) + (zand (((a.val : Int) - (zand ((a.val : Int) % 4294967296 / 2 ^ (1 : Int).toNat) 1431655765)) % 4294967296 / 2 ^ (2 : Int).toNat) 858993459)) + (((zand ((a.val : Int) - (zand ((a.val : Int) % 4294967296 / 2 ^ (1 : Int).toNat) 1431655765)) 858993459) + (zand (((a.val : Int) - (zand ((a.val : Int) % 4294967296 / 2 ^ (1 : Int).toNat) 1431655765)) % 4294967296 / 2 ^ (2 : Int).toNat) 858993459)) % 4294967296 / 2 ^ (4 : Int).toNat)) 252645135) + ((zand (((zand ((a.val : Int) - (zand ((a.val : Int) % 4294967296 / 2 ^ (1 : Int).toNat) 1431655765)) 858993459) + (zand (((a.val : Int) - (zand ((a.val : Int) % 4294967296 / 2 ^ (1 : Int).toNat) 1431655765)) % 4294967296 / 2 ^ (2 : Int).toNat) 858993459)) + (((zand ((a.val : Int) - (zand ((a.val : Int) % 4294967296 / 2 ^ (1 : Int).toNat) 1431655765)) 858993459) + (zand (((a.val : Int) - (zand ((a.val : Int) % 4294967296 / 2 ^ (1 : Int).toNat) 1431655765)) % 4294967296 / 2 ^ (2 : Int).toNat) 858993459)) % 4294967296 / 2 ^ (4 : Int).toNat)) 252645135) % 4294967296 / 2 ^ (8 : Int).toNat)) % 4294967296 / 2 ^ (16 : Int).toNat)) 63 = fPc (a.val : Int) := by decide +kernel
theorem C_J9_bitCount {G : zG} {S : zS} {m : zMm} {a : Int} (h0 : 0 ≤ a) (h1 : a < 1024) : zC G mJ9_bitCount 0 0 0 [zI a] S m (zDet (some (zI (fPc a))) S m) zNX := by
  refine zC.of [zI a] (by decide) rfl (zEn1 (zcI _) (zEn0 (by simp))) rfl ?_
  refine zT.iload_n 0 dJ9_bitCount_0 rfl rfl ?_
  refine zT.iload_n 0 dJ9_bitCount_1 rfl rfl ?_
  refine zT.iconst dJ9_bitCount_2 ?_
  refine zT.iushr dJ9_bitCount_3 (by first | assumption | exact zq_i _ | exact zand_i _ _ | exact zor_i _ _ | exact zN _ | omega) (by first | assumption | exact zq_i _ | exact zand_i _ _ | exact zor_i _ _ | exact zN _ | omega) ?_
  refine zT.ldcw 1431655765 q1118 (by decide +kernel) dJ9_bitCount_4 ?_
  refine zT.iand dJ9_bitCount_7 ?_
  refine zT.isub dJ9_bitCount_8 ?_
  refine zT.istore_n 0 dJ9_bitCount_9 rfl (by decide) zpre0 ?_
  show zT G _ _ _ [zI (a - (zand (a % 4294967296 / 2 ^ (1 : Int).toNat) 1431655765))] _ _ _ _ _ _ _
  refine zT.iload_n 0 dJ9_bitCount_10 rfl rfl ?_
  refine zT.ldcw 858993459 q1119 (by decide +kernel) dJ9_bitCount_11 ?_
  refine zT.iand dJ9_bitCount_14 ?_
  refine zT.iload_n 0 dJ9_bitCount_15 rfl rfl ?_
  refine zT.iconst dJ9_bitCount_16 ?_
  refine zT.iushr dJ9_bitCount_17 (by first | assumption | exact zq_i _ | exact zand_i _ _ | exact zor_i _ _ | exact zN _ | omega) (by first | assumption | exact zq_i _ | exact zand_i _ _ | exact zor_i _ _ | exact zN _ | omega) ?_
  refine zT.ldcw 858993459 q1119 (by decide +kernel) dJ9_bitCount_18 ?_
  refine zT.iand dJ9_bitCount_21 ?_
  refine zT.iadd dJ9_bitCount_22 ?_
  refine zT.istore_n 0 dJ9_bitCount_23 rfl (by decide) zpre0 ?_
  show zT G _ _ _ [zI ((zand (a - (zand (a % 4294967296 / 2 ^ (1 : Int).toNat) 1431655765)) 858993459) + (zand ((a - (zand (a % 4294967296 / 2 ^ (1 : Int).toNat) 1431655765)) % 4294967296 / 2 ^ (2 : Int).toNat) 858993459))] _ _ _ _ _ _ _
  refine zT.iload_n 0 dJ9_bitCount_24 rfl rfl ?_
  refine zT.iload_n 0 dJ9_bitCount_25 rfl rfl ?_
  refine zT.iconst dJ9_bitCount_26 ?_
  refine zT.iushr dJ9_bitCount_27 (by first | assumption | exact zq_i _ | exact zand_i _ _ | exact zor_i _ _ | exact zN _ | omega) (by first | assumption | exact zq_i _ | exact zand_i _ _ | exact zor_i _ _ | exact zN _ | omega) ?_
  refine zT.iadd dJ9_bitCount_28 ?_
  refine zT.ldcw 252645135 q1120 (by decide +kernel) dJ9_bitCount_29 ?_
  refine zT.iand dJ9_bitCount_32 ?_
  refine zT.istore_n 0 dJ9_bitCount_33 rfl (by decide) zpre0 ?_
  show zT G _ _ _ [zI (zand (((zand (a - (zand (a % 4294967296 / 2 ^ (1 : Int).toNat) 1431655765)) 858993459) + (zand ((a - (zand (a % 4294967296 / 2 ^ (1 : Int).toNat) 1431655765)) % 4294967296 / 2 ^ (2 : Int).toNat) 858993459)) + (((zand (a - (zand (a % 4294967296 / 2 ^ (1 : Int).toNat) 1431655765)) 858993459) + (zand ((a - (zand (a % 4294967296 / 2 ^ (1 : Int).toNat) 1431655765)) % 4294967296 / 2 ^ (2 : Int).toNat) 858993459)) % 4294967296 / 2 ^ (4 : Int).toNat)) 252645135)] _ _ _ _ _ _ _
  refine zT.iload_n 0 dJ9_bitCount_34 rfl rfl ?_
  refine zT.iload_n 0 dJ9_bitCount_35 rfl rfl ?_
  refine zT.bipush dJ9_bitCount_36 ?_
  refine zT.iushr dJ9_bitCount_38 (by first | assumption | exact zq_i _ | exact zand_i _ _ | exact zor_i _ _ | exact zN _ | omega) (by first | assumption | exact zq_i _ | exact zand_i _ _ | exact zor_i _ _ | exact zN _ | omega) ?_
  refine zT.iadd dJ9_bitCount_39 ?_
  refine zT.istore_n 0 dJ9_bitCount_40 rfl (by decide) zpre0 ?_
  show zT G _ _ _ [zI ((zand (((zand (a - (zand (a % 4294967296 / 2 ^ (1 : Int).toNat) 1431655765)) 858993459) + (zand ((a - (zand (a % 4294967296 / 2 ^ (1 : Int).toNat) 1431655765)) % 4294967296 / 2 ^ (2 : Int).toNat) 858993459)) + (((zand (a - (zand (a % 4294967296 / 2 ^ (1 : Int).toNat) 1431655765)) 858993459) + (zand ((a - (zand (a % 4294967296 / 2 ^ (1 : Int).toNat) 1431655765)) % 4294967296 / 2 ^ (2 : Int).toNat) 858993459)) % 4294967296 / 2 ^ (4 : Int).toNat)) 252645135) + ((zand (((zand (a - (zand (a % 4294967296 / 2 ^ (1 : Int).toNat) 1431655765)) 858993459) + (zand ((a - (zand (a % 4294967296 / 2 ^ (1 : Int).toNat) 1431655765)) % 4294967296 / 2 ^ (2 : Int).toNat) 858993459)) + (((zand (a - (zand (a % 4294967296 / 2 ^ (1 : Int).toNat) 1431655765)) 858993459) + (zand ((a - (zand (a % 4294967296 / 2 ^ (1 : Int).toNat) 1431655765)) % 4294967296 / 2 ^ (2 : Int).toNat) 858993459)) % 4294967296 / 2 ^ (4 : Int).toNat)) 252645135) % 4294967296 / 2 ^ (8 : Int).toNat))] _ _ _ _ _ _ _
  refine zT.iload_n 0 dJ9_bitCount_41 rfl rfl ?_
  refine zT.iload_n 0 dJ9_bitCount_42 rfl rfl ?_
  refine zT.bipush dJ9_bitCount_43 ?_
  refine zT.iushr dJ9_bitCount_45 (by first | assumption | exact zq_i _ | exact zand_i _ _ | exact zor_i _ _ | exact zN _ | omega) (by first | assumption | exact zq_i _ | exact zand_i _ _ | exact zor_i _ _ | exact zN _ | omega) ?_
  refine zT.iadd dJ9_bitCount_46 ?_
  refine zT.istore_n 0 dJ9_bitCount_47 rfl (by decide) zpre0 ?_
  show zT G _ _ _ [zI (((zand (((zand (a - (zand (a % 4294967296 / 2 ^ (1 : Int).toNat) 1431655765)) 858993459) + (zand ((a - (zand (a % 4294967296 / 2 ^ (1 : Int).toNat) 1431655765)) % 4294967296 / 2 ^ (2 : Int).toNat) 858993459)) + (((zand (a - (zand (a % 4294967296 / 2 ^ (1 : Int).toNat) 1431655765)) 858993459) + (zand ((a - (zand (a % 4294967296 / 2 ^ (1 : Int).toNat) 1431655765)) % 4294967296 / 2 ^ (2 : Int).toNat) 858993459)) % 4294967296 / 2 ^ (4 : Int).toNat)) 252645135) + ((zand (((zand (a - (zand (a % 4294967296 / 2 ^ (1 : Int).toNat) 1431655765)) 858993459) + (zand ((a - (zand (a % 4294967296 / 2 ^ (1 : Int).toNat) 1431655765)) % 4294967296 / 2 ^ (2 : Int).toNat) 858993459)) + (((zand (a - (zand (a % 4294967296 / 2 ^ (1 : Int).toNat) 1431655765)) 858993459) + (zand ((a - (zand (a % 4294967296 / 2 ^ (1 : Int).toNat) 1431655765)) % 4294967296 / 2 ^ (2 : Int).toNat) 858993459)) % 4294967296 / 2 ^ (4 : Int).toNat)) 252645135) % 4294967296 / 2 ^ (8 : Int).toNat)) + (((zand (((zand (a - (zand (a % 4294967296 / 2 ^ (1 : Int).toNat) 1431655765)) 858993459) + (zand ((a - (zand (a % 4294967296 / 2 ^ (1 : Int).toNat) 1431655765)) % 4294967296 / 2 ^ (2 : Int).toNat) 858993459)) + (((zand (a - (zand (a % 4294967296 / 2 ^ (1 : Int).toNat) 1431655765)) 858993459) + (zand ((a - (zand (a % 4294967296 / 2 ^ (1 : Int).toNat) 1431655765)) % 4294967296 / 2 ^ (2 : Int).toNat) 858993459)) % 4294967296 / 2 ^ (4 : Int).toNat)) 252645135) + ((zand (((zand (a - (zand (a % 4294967296 / 2 ^ (1 : Int).toNat) 1431655765)) 858993459) + (zand ((a - (zand (a % 4294967296 / 2 ^ (1 : Int).toNat) 1431655765)) % 4294967296 / 2 ^ (2 : Int).toNat) 858993459)) + (((zand (a - (zand (a % 4294967296 / 2 ^ (1 : Int).toNat) 1431655765)) 858993459) + (zand ((a - (zand (a % 4294967296 / 2 ^ (1 : Int).toNat) 1431655765)) % 4294967296 / 2 ^ (2 : Int).toNat) 858993459)) % 4294967296 / 2 ^ (4 : Int).toNat)) 252645135) % 4294967296 / 2 ^ (8 : Int).toNat)) % 4294967296 / 2 ^ (16 : Int).toNat))] _ _ _ _ _ _ _
  refine zT.iload_n 0 dJ9_bitCount_48 rfl rfl ?_
  refine zT.bipush dJ9_bitCount_49 ?_
  refine zT.iand dJ9_bitCount_51 ?_
  refine zT.iret dJ9_bitCount_52 rfl ?_
  refine ⟨?_, rfl, rfl⟩
  have q := fBc_s ⟨a.toNat, by omega⟩
  simp only [z_nat h0] at q
  rw [q]

theorem C_X1_isMinute {G : zG} {S : zS} {m : zMm} {a p : Int} (h0 : 0 ≤ a) (h1 : a < 1024) (hp : zi p) : zC G mX1_isMinute 1 0 0 [zI a, zI p] S m (zDet (some (zI (zq (fPc a ≤ p ∧ fPr a)))) S m) zNX := by
  have hpc := fPc_b (a := a)
  have hpi := fPr_i h0 h1
  refine zC.of [zI a, zI p] (by decide) rfl (zEn1 (zcI _) (zEn1 (zcI _) (zEn0 (by simp)))) rfl ?_
  refine zT.iload_n 0 dX1_isMinute_0 rfl rfl ?_
  refine zT.callS (M' := mJ9_bitCount) [zI a] [] dX1_isMinute_1 kX1_430 rfl rfl (C_J9_bitCount (by omega) (by omega)) (by decide) (k' := 0) (n' := 0) (by omega) (by omega) (by decide) (zdk (v := some (zI (fPc a))) ?_) (fun _ _ _ _ h => h.elim)
  show zT G _ _ _ _ [zI (fPc a)] _ _ _ _ _ _
  refine zT.iload_n 1 dX1_isMinute_4 rfl rfl ?_
  refine zT.ic_gt (tgt := 24) dX1_isMinute_5 (by decide) (by first | assumption | exact zq_i _ | exact zand_i _ _ | exact zor_i _ _ | exact zN _ | omega) (by first | assumption | exact zq_i _ | exact zand_i _ _ | exact zor_i _ _ | exact zN _ | omega) (fun c5 => ?_) (fun c5 => ?_)
  · refine zT.iconst dX1_isMinute_24 ?_
    refine zT.zret dX1_isMinute_25 rfl (by omega) ?_
    first
      | (rw [zq_t ⟨by omega, hpi.mp (by assumption)⟩]; exact ⟨rfl, rfl, rfl⟩)
      | (rw [zq_f (fun z => absurd (hpi.mpr z.2) (by assumption))]; exact ⟨rfl, rfl, rfl⟩)
      | (rw [zq_f (fun z => by have := z.1; omega)]; exact ⟨rfl, rfl, rfl⟩)
  · refine zT.iload_n 0 dX1_isMinute_8 rfl rfl ?_
    refine zT.iload_n 0 dX1_isMinute_9 rfl rfl ?_
    refine zT.iconst dX1_isMinute_10 ?_
    refine zT.ishr dX1_isMinute_11 (by first | assumption | exact zq_i _ | exact zand_i _ _ | exact zor_i _ _ | exact zN _ | omega) (by first | assumption | exact zq_i _ | exact zand_i _ _ | exact zor_i _ _ | exact zN _ | omega) (by first | assumption | exact zq_i _ | exact zand_i _ _ | exact zor_i _ _ | exact zN _ | omega) ?_
    refine zT.iand dX1_isMinute_12 ?_
    refine zT.sipush dX1_isMinute_13 ?_
    refine zT.iand dX1_isMinute_16 ?_
    refine zT.if_ne (tgt := 24) dX1_isMinute_17 (by decide) (by first | assumption | exact zq_i _ | exact zand_i _ _ | exact zor_i _ _ | exact zN _ | omega) (fun c17 => ?_) (fun c17 => ?_)
    · refine zT.iconst dX1_isMinute_24 ?_
      refine zT.zret dX1_isMinute_25 rfl (by omega) ?_
      first
        | (rw [zq_t ⟨by omega, hpi.mp (by assumption)⟩]; exact ⟨rfl, rfl, rfl⟩)
        | (rw [zq_f (fun z => absurd (hpi.mpr z.2) (by assumption))]; exact ⟨rfl, rfl, rfl⟩)
        | (rw [zq_f (fun z => by have := z.1; omega)]; exact ⟨rfl, rfl, rfl⟩)
    · refine zT.iconst dX1_isMinute_20 ?_
      refine zT.goto (tgt := 25) dX1_isMinute_21 (by decide) ?_
      refine zT.zret dX1_isMinute_25 rfl (by omega) ?_
      first
        | (rw [zq_t ⟨by omega, hpi.mp (by assumption)⟩]; exact ⟨rfl, rfl, rfl⟩)
        | (rw [zq_f (fun z => absurd (hpi.mpr z.2) (by assumption))]; exact ⟨rfl, rfl, rfl⟩)
        | (rw [zq_f (fun z => by have := z.1; omega)]; exact ⟨rfl, rfl, rfl⟩)

theorem C_X13_bits {G : zG} {S : zS} {m : zMm} {a : Int} (h0 : 0 ≤ a) (h1 : a < 1024) : zC G mX13_bits 0 0 0 [zI a] S m (zDet (some (zI (fPc a))) S m) zNX := by
  refine zC.of [zI a, zU, zU] (by decide) rfl (zEn1 (zcI _) (zEn0 (by simp))) rfl ?_
  refine zT.iconst dX13_bits_0 ?_
  refine zT.istore_n 1 dX13_bits_1 rfl (by decide) (zpre1 rfl (zcI _)) ?_
  show zT G _ _ _ [zI a, zI 0, zU] _ _ _ _ _ _ _
  refine zT.iload_n 0 dX13_bits_2 rfl rfl ?_
  refine zT.istore_n 2 dX13_bits_3 rfl (by decide) (zpre1 rfl (zcI _)) ?_
  show zT G _ _ _ [zI a, zI 0, zI a] _ _ _ _ _ _ _
  have L4 : ∀ (N : Nat) (n : Int) (s : Int), (0 ≤ s) → (s < 1024) → (n + fPc s = fPc a) → s.toNat < N → zT G mX13_bits 0 4 [zI a, zI n, zI s] [] S m 0 0 (zDet (some (zI (fPc a))) S m) zNX := by
    intro N
    induction N with
    | zero => intro n s s0 s1 hn hN; exact absurd hN (Nat.not_lt_zero _)
    | succ N ih4 =>
      intro n s s0 s1 hn hN
      refine zT.iload_n 2 dX13_bits_4 rfl rfl ?_
      refine zT.if_eq (tgt := 20) dX13_bits_5 (by decide) (by first | assumption | exact zq_i _ | exact zand_i _ _ | exact zor_i _ _ | exact zN _ | omega) (fun c5 => ?_) (fun c5 => ?_)
      · refine zT.iload_n 1 dX13_bits_20 rfl rfl ?_
        refine zT.iret dX13_bits_21 rfl ?_
        have hs : s = 0 := by omega
        rw [hs] at hn
        have h9 : fPc 0 = 0 := rfl
        rw [show n = fPc a by omega]
        exact ⟨rfl, rfl, rfl⟩
      · have hpi := fPc_i (s := s) (by omega) s1
        refine zT.iinc 1 dX13_bits_8 rfl (by decide) (zpre1 rfl (zcI _)) ?_
        show zT G _ _ _ [zI a, zI (n + 1), zI s] _ _ _ _ _ _ _
        refine zT.iload_n 2 dX13_bits_11 rfl rfl ?_
        refine zT.iload_n 2 dX13_bits_12 rfl rfl ?_
        refine zT.iconst dX13_bits_13 ?_
        refine zT.isub dX13_bits_14 ?_
        refine zT.iand dX13_bits_15 ?_
        refine zT.istore_n 2 dX13_bits_16 rfl (by decide) (zpre1 rfl (zcI _)) ?_
        show zT G _ _ _ [zI a, zI (n + 1), zI (zand s (s - 1))] _ _ _ _ _ _ _
        refine zT.goto (tgt := 4) dX13_bits_17 (by decide) ?_
        exact ih4 _ _ (by omega) (by omega) (by omega) (by omega)
  exact L4 _ _ _ (by first | assumption | exact zq_i _ | exact zand_i _ _ | exact zor_i _ _ | exact zN _ | omega) (by first | assumption | exact zq_i _ | exact zand_i _ _ | exact zor_i _ _ | exact zN _ | omega) (by exact Int.zero_add _) (Nat.lt_succ_self _)

theorem zand_3 (a : Int) : zand a 3 = a % 4 := zand_mask 2 (by omega) (by decide +kernel) (by omega)
theorem C_X13_mayBe {G : zG} {S : zS} {m : zMm} {a p : Int} (h0 : 0 ≤ a) (h1 : a < 1024) (hp : zi p) : zC G mX13_mayBe 1 0 0 [zI a, zI p] S m (zDet (some (zI (zq (fPc a ≤ p ∧ fPr a)))) S m) zNX := by
  have hpc := fPc_b (a := a)
  have p0 : (2 : Int) ^ Int.toNat 0 = 1 := rfl
  have p2 : (2 : Int) ^ Int.toNat 2 = 4 := rfl
  have p4 : (2 : Int) ^ Int.toNat 4 = 16 := rfl
  have p6 : (2 : Int) ^ Int.toNat 6 = 64 := rfl
  have p8 : (2 : Int) ^ Int.toNat 8 = 256 := rfl
  refine zC.of [zI a, zI p, zU] (by decide) rfl (zEn1 (zcI _) (zEn1 (zcI _) (zEn0 (by simp)))) rfl ?_
  refine zT.iconst dX13_mayBe_0 ?_
  refine zT.istore_n 2 dX13_mayBe_1 rfl (by decide) (zpre1 rfl (zcI _)) ?_
  show zT G _ _ _ [zI a, zI p, zI 0] _ _ _ _ _ _ _
  refine zT.iload_n 2 dX13_mayBe_2 rfl rfl ?_
  refine zT.iconst dX13_mayBe_3 ?_
  refine zT.ic_ge (tgt := 26) dX13_mayBe_4 (by decide) (by first | assumption | exact zq_i _ | exact zand_i _ _ | exact zor_i _ _ | exact zN _ | omega) (by first | assumption | exact zq_i _ | exact zand_i _ _ | exact zor_i _ _ | exact zN _ | omega) (fun c4 => absurd c4 (by decide)) (fun c4 => ?_)
  refine zT.iload_n 0 dX13_mayBe_7 rfl rfl ?_
  refine zT.iconst dX13_mayBe_8 ?_
  refine zT.iload_n 2 dX13_mayBe_9 rfl rfl ?_
  refine zT.imul dX13_mayBe_10 ?_
  show zT G _ _ _ _ [zI 0, zI a] _ _ _ _ _ _
  refine zT.ishr dX13_mayBe_11 (by first | assumption | exact zq_i _ | exact zand_i _ _ | exact zor_i _ _ | exact zN _ | omega) (by first | assumption | exact zq_i _ | exact zand_i _ _ | exact zor_i _ _ | exact zN _ | omega) (by first | assumption | exact zq_i _ | exact zand_i _ _ | exact zor_i _ _ | exact zN _ | omega) ?_
  refine zT.iconst dX13_mayBe_12 ?_
  refine zT.iand dX13_mayBe_13 ?_
  rw [zand_3, p0]
  show zT G _ _ _ _ [zI (a / 1 % 4)] _ _ _ _ _ _
  refine zT.iconst dX13_mayBe_14 ?_
  refine zT.ic_ne (tgt := 20) dX13_mayBe_15 (by decide) (by first | assumption | exact zq_i _ | exact zand_i _ _ | exact zor_i _ _ | exact zN _ | omega) (by first | assumption | exact zq_i _ | exact zand_i _ _ | exact zor_i _ _ | exact zN _ | omega) (fun c15 => ?_) (fun c15 => ?_)
  · refine zT.iinc 2 dX13_mayBe_20 rfl (by decide) (zpre1 rfl (zcI _)) ?_
    show zT G _ _ _ [zI a, zI p, zI 1] _ _ _ _ _ _ _
    refine zT.goto (tgt := 2) dX13_mayBe_23 (by decide) ?_
    refine zT.iload_n 2 dX13_mayBe_2 rfl rfl ?_
    refine zT.iconst dX13_mayBe_3 ?_
    refine zT.ic_ge (tgt := 26) dX13_mayBe_4 (by decide) (by first | assumption | exact zq_i _ | exact zand_i _ _ | exact zor_i _ _ | exact zN _ | omega) (by first | assumption | exact zq_i _ | exact zand_i _ _ | exact zor_i _ _ | exact zN _ | omega) (fun c4 => absurd c4 (by decide)) (fun c4 => ?_)
    refine zT.iload_n 0 dX13_mayBe_7 rfl rfl ?_
    refine zT.iconst dX13_mayBe_8 ?_
    refine zT.iload_n 2 dX13_mayBe_9 rfl rfl ?_
    refine zT.imul dX13_mayBe_10 ?_
    show zT G _ _ _ _ [zI 2, zI a] _ _ _ _ _ _
    refine zT.ishr dX13_mayBe_11 (by first | assumption | exact zq_i _ | exact zand_i _ _ | exact zor_i _ _ | exact zN _ | omega) (by first | assumption | exact zq_i _ | exact zand_i _ _ | exact zor_i _ _ | exact zN _ | omega) (by first | assumption | exact zq_i _ | exact zand_i _ _ | exact zor_i _ _ | exact zN _ | omega) ?_
    refine zT.iconst dX13_mayBe_12 ?_
    refine zT.iand dX13_mayBe_13 ?_
    rw [zand_3, p2]
    show zT G _ _ _ _ [zI (a / 4 % 4)] _ _ _ _ _ _
    refine zT.iconst dX13_mayBe_14 ?_
    refine zT.ic_ne (tgt := 20) dX13_mayBe_15 (by decide) (by first | assumption | exact zq_i _ | exact zand_i _ _ | exact zor_i _ _ | exact zN _ | omega) (by first | assumption | exact zq_i _ | exact zand_i _ _ | exact zor_i _ _ | exact zN _ | omega) (fun c15 => ?_) (fun c15 => ?_)
    · refine zT.iinc 2 dX13_mayBe_20 rfl (by decide) (zpre1 rfl (zcI _)) ?_
      show zT G _ _ _ [zI a, zI p, zI 2] _ _ _ _ _ _ _
      refine zT.goto (tgt := 2) dX13_mayBe_23 (by decide) ?_
      refine zT.iload_n 2 dX13_mayBe_2 rfl rfl ?_
      refine zT.iconst dX13_mayBe_3 ?_
      refine zT.ic_ge (tgt := 26) dX13_mayBe_4 (by decide) (by first | assumption | exact zq_i _ | exact zand_i _ _ | exact zor_i _ _ | exact zN _ | omega) (by first | assumption | exact zq_i _ | exact zand_i _ _ | exact zor_i _ _ | exact zN _ | omega) (fun c4 => absurd c4 (by decide)) (fun c4 => ?_)
      refine zT.iload_n 0 dX13_mayBe_7 rfl rfl ?_
      refine zT.iconst dX13_mayBe_8 ?_
      refine zT.iload_n 2 dX13_mayBe_9 rfl rfl ?_
      refine zT.imul dX13_mayBe_10 ?_
      show zT G _ _ _ _ [zI 4, zI a] _ _ _ _ _ _
      refine zT.ishr dX13_mayBe_11 (by first | assumption | exact zq_i _ | exact zand_i _ _ | exact zor_i _ _ | exact zN _ | omega) (by first | assumption | exact zq_i _ | exact zand_i _ _ | exact zor_i _ _ | exact zN _ | omega) (by first | assumption | exact zq_i _ | exact zand_i _ _ | exact zor_i _ _ | exact zN _ | omega) ?_
      refine zT.iconst dX13_mayBe_12 ?_
      refine zT.iand dX13_mayBe_13 ?_
      rw [zand_3, p4]
      show zT G _ _ _ _ [zI (a / 16 % 4)] _ _ _ _ _ _
      refine zT.iconst dX13_mayBe_14 ?_
      refine zT.ic_ne (tgt := 20) dX13_mayBe_15 (by decide) (by first | assumption | exact zq_i _ | exact zand_i _ _ | exact zor_i _ _ | exact zN _ | omega) (by first | assumption | exact zq_i _ | exact zand_i _ _ | exact zor_i _ _ | exact zN _ | omega) (fun c15 => ?_) (fun c15 => ?_)
      · refine zT.iinc 2 dX13_mayBe_20 rfl (by decide) (zpre1 rfl (zcI _)) ?_
        show zT G _ _ _ [zI a, zI p, zI 3] _ _ _ _ _ _ _
        refine zT.goto (tgt := 2) dX13_mayBe_23 (by decide) ?_
        refine zT.iload_n 2 dX13_mayBe_2 rfl rfl ?_
        refine zT.iconst dX13_mayBe_3 ?_
        refine zT.ic_ge (tgt := 26) dX13_mayBe_4 (by decide) (by first | assumption | exact zq_i _ | exact zand_i _ _ | exact zor_i _ _ | exact zN _ | omega) (by first | assumption | exact zq_i _ | exact zand_i _ _ | exact zor_i _ _ | exact zN _ | omega) (fun c4 => absurd c4 (by decide)) (fun c4 => ?_)
        refine zT.iload_n 0 dX13_mayBe_7 rfl rfl ?_
        refine zT.iconst dX13_mayBe_8 ?_
        refine zT.iload_n 2 dX13_mayBe_9 rfl rfl ?_
        refine zT.imul dX13_mayBe_10 ?_
        show zT G _ _ _ _ [zI 6, zI a] _ _ _ _ _ _
        refine zT.ishr dX13_mayBe_11 (by first | assumption | exact zq_i _ | exact zand_i _ _ | exact zor_i _ _ | exact zN _ | omega) (by first | assumption | exact zq_i _ | exact zand_i _ _ | exact zor_i _ _ | exact zN _ | omega) (by first | assumption | exact zq_i _ | exact zand_i _ _ | exact zor_i _ _ | exact zN _ | omega) ?_
        refine zT.iconst dX13_mayBe_12 ?_
        refine zT.iand dX13_mayBe_13 ?_
        rw [zand_3, p6]
        show zT G _ _ _ _ [zI (a / 64 % 4)] _ _ _ _ _ _
        refine zT.iconst dX13_mayBe_14 ?_
        refine zT.ic_ne (tgt := 20) dX13_mayBe_15 (by decide) (by first | assumption | exact zq_i _ | exact zand_i _ _ | exact zor_i _ _ | exact zN _ | omega) (by first | assumption | exact zq_i _ | exact zand_i _ _ | exact zor_i _ _ | exact zN _ | omega) (fun c15 => ?_) (fun c15 => ?_)
        · refine zT.iinc 2 dX13_mayBe_20 rfl (by decide) (zpre1 rfl (zcI _)) ?_
          show zT G _ _ _ [zI a, zI p, zI 4] _ _ _ _ _ _ _
          refine zT.goto (tgt := 2) dX13_mayBe_23 (by decide) ?_
          refine zT.iload_n 2 dX13_mayBe_2 rfl rfl ?_
          refine zT.iconst dX13_mayBe_3 ?_
          refine zT.ic_ge (tgt := 26) dX13_mayBe_4 (by decide) (by first | assumption | exact zq_i _ | exact zand_i _ _ | exact zor_i _ _ | exact zN _ | omega) (by first | assumption | exact zq_i _ | exact zand_i _ _ | exact zor_i _ _ | exact zN _ | omega) (fun c4 => absurd c4 (by decide)) (fun c4 => ?_)
          refine zT.iload_n 0 dX13_mayBe_7 rfl rfl ?_
          refine zT.iconst dX13_mayBe_8 ?_
          refine zT.iload_n 2 dX13_mayBe_9 rfl rfl ?_
          refine zT.imul dX13_mayBe_10 ?_
          show zT G _ _ _ _ [zI 8, zI a] _ _ _ _ _ _
          refine zT.ishr dX13_mayBe_11 (by first | assumption | exact zq_i _ | exact zand_i _ _ | exact zor_i _ _ | exact zN _ | omega) (by first | assumption | exact zq_i _ | exact zand_i _ _ | exact zor_i _ _ | exact zN _ | omega) (by first | assumption | exact zq_i _ | exact zand_i _ _ | exact zor_i _ _ | exact zN _ | omega) ?_
          refine zT.iconst dX13_mayBe_12 ?_
          refine zT.iand dX13_mayBe_13 ?_
          rw [zand_3, p8]
          show zT G _ _ _ _ [zI (a / 256 % 4)] _ _ _ _ _ _
          refine zT.iconst dX13_mayBe_14 ?_
          refine zT.ic_ne (tgt := 20) dX13_mayBe_15 (by decide) (by first | assumption | exact zq_i _ | exact zand_i _ _ | exact zor_i _ _ | exact zN _ | omega) (by first | assumption | exact zq_i _ | exact zand_i _ _ | exact zor_i _ _ | exact zN _ | omega) (fun c15 => ?_) (fun c15 => ?_)
          · refine zT.iinc 2 dX13_mayBe_20 rfl (by decide) (zpre1 rfl (zcI _)) ?_
            show zT G _ _ _ [zI a, zI p, zI 5] _ _ _ _ _ _ _
            refine zT.goto (tgt := 2) dX13_mayBe_23 (by decide) ?_
            refine zT.iload_n 2 dX13_mayBe_2 rfl rfl ?_
            refine zT.iconst dX13_mayBe_3 ?_
            refine zT.ic_ge (tgt := 26) dX13_mayBe_4 (by decide) (by first | assumption | exact zq_i _ | exact zand_i _ _ | exact zor_i _ _ | exact zN _ | omega) (by first | assumption | exact zq_i _ | exact zand_i _ _ | exact zor_i _ _ | exact zN _ | omega) (fun c4 => ?_) (fun c4 => absurd c4 (by decide))
            refine zT.iload_n 0 dX13_mayBe_26 rfl rfl ?_
            refine zT.callS (M' := mX13_bits) [zI a] [] dX13_mayBe_27 kX13_413 rfl rfl (C_X13_bits (by omega) (by omega)) (by decide) (k' := 0) (n' := 0) (by omega) (by omega) (by decide) (zdk (v := some (zI (fPc a))) ?_) (fun _ _ _ _ h => h.elim)
            show zT G _ _ _ _ [zI (fPc a)] _ _ _ _ _ _
            refine zT.iload_n 1 dX13_mayBe_30 rfl rfl ?_
            refine zT.ic_gt (tgt := 38) dX13_mayBe_31 (by decide) (by first | assumption | exact zq_i _ | exact zand_i _ _ | exact zor_i _ _ | exact zN _ | omega) (by first | assumption | exact zq_i _ | exact zand_i _ _ | exact zor_i _ _ | exact zN _ | omega) (fun c31 => ?_) (fun c31 => ?_)
            · refine zT.iconst dX13_mayBe_38 ?_
              refine zT.zret dX13_mayBe_39 rfl (by omega) ?_
              unfold fPr
              first
                | (rw [zq_t (by omega)]; exact ⟨rfl, rfl, rfl⟩)
                | (rw [zq_f (by omega)]; exact ⟨rfl, rfl, rfl⟩)
            · refine zT.iconst dX13_mayBe_34 ?_
              refine zT.goto (tgt := 39) dX13_mayBe_35 (by decide) ?_
              refine zT.zret dX13_mayBe_39 rfl (by omega) ?_
              unfold fPr
              first
                | (rw [zq_t (by omega)]; exact ⟨rfl, rfl, rfl⟩)
                | (rw [zq_f (by omega)]; exact ⟨rfl, rfl, rfl⟩)
          · refine zT.iconst dX13_mayBe_18 ?_
            refine zT.zret dX13_mayBe_19 rfl (by omega) ?_
            unfold fPr
            first
              | (rw [zq_t (by omega)]; exact ⟨rfl, rfl, rfl⟩)
              | (rw [zq_f (by omega)]; exact ⟨rfl, rfl, rfl⟩)
        · refine zT.iconst dX13_mayBe_18 ?_
          refine zT.zret dX13_mayBe_19 rfl (by omega) ?_
          unfold fPr
          first
            | (rw [zq_t (by omega)]; exact ⟨rfl, rfl, rfl⟩)
            | (rw [zq_f (by omega)]; exact ⟨rfl, rfl, rfl⟩)
      · refine zT.iconst dX13_mayBe_18 ?_
        refine zT.zret dX13_mayBe_19 rfl (by omega) ?_
        unfold fPr
        first
          | (rw [zq_t (by omega)]; exact ⟨rfl, rfl, rfl⟩)
          | (rw [zq_f (by omega)]; exact ⟨rfl, rfl, rfl⟩)
    · refine zT.iconst dX13_mayBe_18 ?_
      refine zT.zret dX13_mayBe_19 rfl (by omega) ?_
      unfold fPr
      first
        | (rw [zq_t (by omega)]; exact ⟨rfl, rfl, rfl⟩)
        | (rw [zq_f (by omega)]; exact ⟨rfl, rfl, rfl⟩)
  · refine zT.iconst dX13_mayBe_18 ?_
    refine zT.zret dX13_mayBe_19 rfl (by omega) ?_
    unfold fPr
    first
      | (rw [zq_t (by omega)]; exact ⟨rfl, rfl, rfl⟩)
      | (rw [zq_f (by omega)]; exact ⟨rfl, rfl, rfl⟩)

