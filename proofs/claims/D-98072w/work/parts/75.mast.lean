/-! pupil, masters (written by gen/m_mast.py) -/
theorem C_X1_pupil {G : zG}  {S : zS} {m : zMm} {x : Int} {A : zMm} (hR : rel S m x A) {c t e : Int} {E : Int → Int} (hc : c = 0 ∨ c = 1) (ht : zi t) (ke : zk S e = 101) (ne : zn S e = 16) (hE : ∀ j, 0 ≤ j → j < 16 → m e j = E j) : zC G mX1_pupil 0 0 0 [zR x, zI c, zI t, zR e] S m (zDet (some (zI (pup (aK (A 0 1023) (A 2)) E c t ((aK (A 0 1023) (A 2)) 5)))) S m) zNX := by
  have hk := hR.vki.1
  have hKi := (hR.ki.2.1).ki hk
  have hKn := hKi.nu
  have hkr := hR.ki.2.1
  have hkf := hkr.2.1
  have hk0 := hk.1
  refine zC.of [zR x, zI c, zI t, zR e, zU, zU] (by decide) rfl (zEn1 (zcR _) (zEn1 (zcI _) (zEn1 (zcI _) (zEn1 (zcR _) (zEn0 (by simp)))))) rfl ?_
  refine zT.iconst dX1_pupil_0 ?_
  refine zT.istore 4 dX1_pupil_1 (by decide) (zpre1 rfl (zcR _)) ?_
  show zT G _ _ _ [zR x, zI c, zI t, zR e, zI (-1), zU] _ _ _ _ _ _ _
  refine zT.iconst dX1_pupil_3 ?_
  refine zT.istore 5 dX1_pupil_4 (by decide) (zpre1 rfl (zcI _)) ?_
  show zT G _ _ _ [zR x, zI c, zI t, zR e, zI (-1), zI 0] _ _ _ _ _ _ _
  have L6 : ∀ (N : Nat) (s : Int) (v : Int), (0 ≤ s) → (s ≤ ((aK (A 0 1023) (A 2)) 5)) → (v = pA (aK (A 0 1023) (A 2)) E c s) → ((((aK (A 0 1023) (A 2)) 5) - s).toNat) < N → zT G mX1_pupil 0 6 [zR x, zI c, zI t, zR e, zI v, zI s] [] S m 0 0 (zDet (some (zI (pup (aK (A 0 1023) (A 2)) E c t ((aK (A 0 1023) (A 2)) 5)))) S m) zNX := by
    intro N
    induction N with
    | zero => intro s v s0 s1 hv hN; exact absurd hN (Nat.not_lt_zero _)
    | succ N ih6 =>
      intro s v s0 s1 hv hN
      have hvb := pA_i (K := (aK (A 0 1023) (A 2))) (E := E) (c := c) s0
      rw [← hv] at hvb
      refine zT.iload 5 dX1_pupil_6 rfl ?_
      refine zT.aload_n 0 dX1_pupil_8 rfl rfl ?_
      refine zT.getR dX1_pupil_9 fX1_66 rfl (zPan.k hR.sh) (j := 7) (by decide) rfl ?_
      refine zT.getI dX1_pupil_12 fX1_228 rfl (zKit.k hR.ki.2.1.1) (j := 8) (by decide) rfl (fun z12 => ?_)
      refine zT.ic_ge (tgt := 89) dX1_pupil_15 (by decide) (by first | assumption | exact zq_i _ | exact zand_i _ _ | exact zor_i _ _ | exact zxor_i _ _ | exact zN _ | omega) (by first | assumption | exact zq_i _ | exact zand_i _ _ | exact zor_i _ _ | exact zxor_i _ _ | exact zN _ | omega) (fun c15 => ?_) (fun c15 => ?_)
      · refine zT.iload 4 dX1_pupil_89 rfl ?_
        refine zT.iconst dX1_pupil_91 ?_
        refine zT.ic_eq (tgt := 98) dX1_pupil_92 (by decide) (by first | assumption | exact zq_i _ | exact zand_i _ _ | exact zor_i _ _ | exact zxor_i _ _ | exact zN _ | omega) (by first | assumption | exact zq_i _ | exact zand_i _ _ | exact zor_i _ _ | exact zxor_i _ _ | exact zN _ | omega) (fun c92 => ?_) (fun c92 => ?_)
        · have hA1 : pA (aK (A 0 1023) (A 2)) E c ((aK (A 0 1023) (A 2)) 5) = -1 := by rw [← show s = ((aK (A 0 1023) (A 2)) 5) by omega, ← hv]; omega
          refine zT.iconst dX1_pupil_98 ?_
          refine zT.istore 5 dX1_pupil_99 (by decide) (zpre1 rfl (zcI _)) ?_
          show zT G _ _ _ [zR x, zI c, zI t, zR e, zI v, zI 0] _ _ _ _ _ _ _
          have L101 : ∀ (N : Nat) (s : Int), (0 ≤ s) → (s ≤ ((aK (A 0 1023) (A 2)) 5)) → (∀ j, 0 ≤ j → j < s → ¬ (E (2 * j + c) = 0 ∧ E (2 * j + 1 - c) ≤ t)) → ((((aK (A 0 1023) (A 2)) 5) - s).toNat) < N → zT G mX1_pupil 0 101 [zR x, zI c, zI t, zR e, zU, zI s] [] S m 0 0 (zDet (some (zI (pup (aK (A 0 1023) (A 2)) E c t ((aK (A 0 1023) (A 2)) 5)))) S m) zNX := by
            intro N
            induction N with
            | zero => intro s s0 s1 hz hN; exact absurd hN (Nat.not_lt_zero _)
            | succ N ih101 =>
              intro s s0 s1 hz hN
              refine zT.iload 5 dX1_pupil_101 rfl ?_
              refine zT.aload_n 0 dX1_pupil_103 rfl rfl ?_
              refine zT.getR dX1_pupil_104 fX1_66 rfl (zPan.k hR.sh) (j := 7) (by decide) rfl ?_
              refine zT.getI dX1_pupil_107 fX1_228 rfl (zKit.k hR.ki.2.1.1) (j := 8) (by decide) rfl (fun z107 => ?_)
              refine zT.ic_ge (tgt := 147) dX1_pupil_110 (by decide) (by first | assumption | exact zq_i _ | exact zand_i _ _ | exact zor_i _ _ | exact zxor_i _ _ | exact zN _ | omega) (by first | assumption | exact zq_i _ | exact zand_i _ _ | exact zor_i _ _ | exact zxor_i _ _ | exact zN _ | omega) (fun c110 => ?_) (fun c110 => ?_)
              · refine zT.iconst dX1_pupil_147 ?_
                refine zT.iret dX1_pupil_148 rfl ?_
                refine ⟨?_, rfl, rfl⟩
                unfold pup pB
                rw [zite_t hA1, zfi_f (fun j a b => hz j a (by omega))]
              · have he2 := hE (2 * s + c) (by omega) (by omega)
                have he3 := hE (2 * s + 1 - c) (by omega) (by omega)
                refine zT.aload_n 3 dX1_pupil_113 rfl rfl ?_
                refine zT.iconst dX1_pupil_114 ?_
                refine zT.iload 5 dX1_pupil_115 rfl ?_
                refine zT.imul dX1_pupil_117 ?_
                refine zT.iload_n 1 dX1_pupil_118 rfl rfl ?_
                refine zT.iadd dX1_pupil_119 ?_
                refine zT.iald dX1_pupil_120 ke (by first | assumption | exact zq_i _ | exact zand_i _ _ | exact zor_i _ _ | exact zxor_i _ _ | exact zN _ | omega) (by rw [ne]; first | assumption | exact zq_i _ | exact zand_i _ _ | exact zor_i _ _ | exact zxor_i _ _ | exact zN _ | omega) (fun z120 => ?_)
                refine zT.if_ne (tgt := 141) dX1_pupil_121 (by decide) (by first | assumption | exact zq_i _ | exact zand_i _ _ | exact zor_i _ _ | exact zxor_i _ _ | exact zN _ | omega) (fun c121 => ?_) (fun c121 => ?_)
                · refine zT.iinc 5 dX1_pupil_141 rfl (by decide) (zpreU rfl) ?_
                  show zT G _ _ _ [zR x, zI c, zI t, zR e, zU, zI (s + 1)] _ _ _ _ _ _ _
                  refine zT.goto (tgt := 101) dX1_pupil_144 (by decide) ?_
                  exact ih101 _ (by first | assumption | exact zq_i _ | exact zand_i _ _ | exact zor_i _ _ | exact zxor_i _ _ | exact zN _ | omega) (by first | assumption | exact zq_i _ | exact zand_i _ _ | exact zor_i _ _ | exact zxor_i _ _ | exact zN _ | omega) (by exact zal_s hz (fun z => by have q1 := z.1; have q2 := z.2; omega)) (by omega)
                · refine zT.aload_n 3 dX1_pupil_124 rfl rfl ?_
                  refine zT.iconst dX1_pupil_125 ?_
                  refine zT.iload 5 dX1_pupil_126 rfl ?_
                  refine zT.imul dX1_pupil_128 ?_
                  refine zT.iconst dX1_pupil_129 ?_
                  refine zT.iadd dX1_pupil_130 ?_
                  refine zT.iload_n 1 dX1_pupil_131 rfl rfl ?_
                  refine zT.isub dX1_pupil_132 ?_
                  refine zT.iald dX1_pupil_133 ke (by first | assumption | exact zq_i _ | exact zand_i _ _ | exact zor_i _ _ | exact zxor_i _ _ | exact zN _ | omega) (by rw [ne]; first | assumption | exact zq_i _ | exact zand_i _ _ | exact zor_i _ _ | exact zxor_i _ _ | exact zN _ | omega) (fun z133 => ?_)
                  refine zT.iload_n 2 dX1_pupil_134 rfl rfl ?_
                  refine zT.ic_gt (tgt := 141) dX1_pupil_135 (by decide) (by first | assumption | exact zq_i _ | exact zand_i _ _ | exact zor_i _ _ | exact zxor_i _ _ | exact zN _ | omega) (by first | assumption | exact zq_i _ | exact zand_i _ _ | exact zor_i _ _ | exact zxor_i _ _ | exact zN _ | omega) (fun c135 => ?_) (fun c135 => ?_)
                  · refine zT.iinc 5 dX1_pupil_141 rfl (by decide) (zpreU rfl) ?_
                    show zT G _ _ _ [zR x, zI c, zI t, zR e, zU, zI (s + 1)] _ _ _ _ _ _ _
                    refine zT.goto (tgt := 101) dX1_pupil_144 (by decide) ?_
                    exact ih101 _ (by first | assumption | exact zq_i _ | exact zand_i _ _ | exact zor_i _ _ | exact zxor_i _ _ | exact zN _ | omega) (by first | assumption | exact zq_i _ | exact zand_i _ _ | exact zor_i _ _ | exact zxor_i _ _ | exact zN _ | omega) (by exact zal_s hz (fun z => by have q1 := z.1; have q2 := z.2; omega)) (by omega)
                  · refine zT.iload 5 dX1_pupil_138 rfl ?_
                    refine zT.iret dX1_pupil_140 rfl ?_
                    refine ⟨?_, rfl, rfl⟩
                    unfold pup pB
                    rw [zite_t hA1, zfi_t hz (by omega) (by omega) ⟨by omega, by omega⟩]
          refine zT.loc (V' := [zR x, zI c, zI t, zR e, zU, zI 0]) ?_ ⟨Or.inr rfl, Or.inr rfl, Or.inr rfl, Or.inr rfl, Or.inl rfl, Or.inr rfl, trivial⟩
          exact L101 _ _ (by first | assumption | exact zq_i _ | exact zand_i _ _ | exact zor_i _ _ | exact zxor_i _ _ | exact zN _ | omega) (by first | assumption | exact zq_i _ | exact zand_i _ _ | exact zor_i _ _ | exact zxor_i _ _ | exact zN _ | omega) (by exact fun j a b => by omega) (Nat.lt_succ_self _)
        · refine zT.iload 4 dX1_pupil_95 rfl ?_
          refine zT.iret dX1_pupil_97 rfl ?_
          refine ⟨?_, rfl, rfl⟩
          have hA1 : pA (aK (A 0 1023) (A 2)) E c ((aK (A 0 1023) (A 2)) 5) = v := by rw [← show s = ((aK (A 0 1023) (A 2)) 5) by omega, ← hv]
          unfold pup
          rw [zite_f (by omega), hA1]
      · have he0 := hE (2 * s) (by omega) (by omega)
        have he1 := hE (2 * s + 1) (by omega) (by omega)
        have hm1 := hkr.min (j := 2 * s + 1 - c) (by omega) (by omega)
        rw [fL0_o hc] at hm1
        refine zT.aload_n 3 dX1_pupil_18 rfl rfl ?_
        refine zT.iconst dX1_pupil_19 ?_
        refine zT.iload 5 dX1_pupil_20 rfl ?_
        refine zT.imul dX1_pupil_22 ?_
        refine zT.iald dX1_pupil_23 ke (by first | assumption | exact zq_i _ | exact zand_i _ _ | exact zor_i _ _ | exact zxor_i _ _ | exact zN _ | omega) (by rw [ne]; first | assumption | exact zq_i _ | exact zand_i _ _ | exact zor_i _ _ | exact zxor_i _ _ | exact zN _ | omega) (fun z23 => ?_)
        refine zT.if_ne (tgt := 83) dX1_pupil_24 (by decide) (by first | assumption | exact zq_i _ | exact zand_i _ _ | exact zor_i _ _ | exact zxor_i _ _ | exact zN _ | omega) (fun c24 => ?_) (fun c24 => ?_)
        · refine zT.iinc 5 dX1_pupil_83 rfl (by decide) (zpre1 rfl (zcI _)) ?_
          show zT G _ _ _ [zR x, zI c, zI t, zR e, zI v, zI (s + 1)] _ _ _ _ _ _ _
          refine zT.goto (tgt := 6) dX1_pupil_86 (by decide) ?_
          exact ih6 _ _ (by first | assumption | exact zq_i _ | exact zand_i _ _ | exact zor_i _ _ | exact zxor_i _ _ | exact zN _ | omega) (by first | assumption | exact zq_i _ | exact zand_i _ _ | exact zor_i _ _ | exact zxor_i _ _ | exact zN _ | omega) (by
              rw [pA_s s0, ← hv]
              first
                | rw [zite_t ⟨⟨by omega, by omega⟩, by omega⟩]
                | rw [zite_f (fun z => by have q1 := z.1.1; have q2 := z.1.2; have q3 := z.2; omega)]) (by omega)
        · refine zT.aload_n 3 dX1_pupil_27 rfl rfl ?_
          refine zT.iconst dX1_pupil_28 ?_
          refine zT.iload 5 dX1_pupil_29 rfl ?_
          refine zT.imul dX1_pupil_31 ?_
          refine zT.iconst dX1_pupil_32 ?_
          refine zT.iadd dX1_pupil_33 ?_
          refine zT.iald dX1_pupil_34 ke (by first | assumption | exact zq_i _ | exact zand_i _ _ | exact zor_i _ _ | exact zxor_i _ _ | exact zN _ | omega) (by rw [ne]; first | assumption | exact zq_i _ | exact zand_i _ _ | exact zor_i _ _ | exact zxor_i _ _ | exact zN _ | omega) (fun z34 => ?_)
          refine zT.if_ne (tgt := 83) dX1_pupil_35 (by decide) (by first | assumption | exact zq_i _ | exact zand_i _ _ | exact zor_i _ _ | exact zxor_i _ _ | exact zN _ | omega) (fun c35 => ?_) (fun c35 => ?_)
          · refine zT.iinc 5 dX1_pupil_83 rfl (by decide) (zpre1 rfl (zcI _)) ?_
            show zT G _ _ _ [zR x, zI c, zI t, zR e, zI v, zI (s + 1)] _ _ _ _ _ _ _
            refine zT.goto (tgt := 6) dX1_pupil_86 (by decide) ?_
            exact ih6 _ _ (by first | assumption | exact zq_i _ | exact zand_i _ _ | exact zor_i _ _ | exact zxor_i _ _ | exact zN _ | omega) (by first | assumption | exact zq_i _ | exact zand_i _ _ | exact zor_i _ _ | exact zxor_i _ _ | exact zN _ | omega) (by
                rw [pA_s s0, ← hv]
                first
                  | rw [zite_t ⟨⟨by omega, by omega⟩, by omega⟩]
                  | rw [zite_f (fun z => by have q1 := z.1.1; have q2 := z.1.2; have q3 := z.2; omega)]) (by omega)
          · refine zT.iload 4 dX1_pupil_38 rfl ?_
            refine zT.iconst dX1_pupil_40 ?_
            refine zT.ic_eq (tgt := 79) dX1_pupil_41 (by decide) (by first | assumption | exact zq_i _ | exact zand_i _ _ | exact zor_i _ _ | exact zxor_i _ _ | exact zN _ | omega) (by first | assumption | exact zq_i _ | exact zand_i _ _ | exact zor_i _ _ | exact zxor_i _ _ | exact zN _ | omega) (fun c41 => ?_) (fun c41 => ?_)
            · refine zT.iload 5 dX1_pupil_79 rfl ?_
              refine zT.istore 4 dX1_pupil_81 (by decide) (zpre1 rfl (zcR _)) ?_
              show zT G _ _ _ [zR x, zI c, zI t, zR e, zI s, zI s] _ _ _ _ _ _ _
              refine zT.iinc 5 dX1_pupil_83 rfl (by decide) (zpre1 rfl (zcI _)) ?_
              show zT G _ _ _ [zR x, zI c, zI t, zR e, zI s, zI (s + 1)] _ _ _ _ _ _ _
              refine zT.goto (tgt := 6) dX1_pupil_86 (by decide) ?_
              exact ih6 _ _ (by first | assumption | exact zq_i _ | exact zand_i _ _ | exact zor_i _ _ | exact zxor_i _ _ | exact zN _ | omega) (by first | assumption | exact zq_i _ | exact zand_i _ _ | exact zor_i _ _ | exact zxor_i _ _ | exact zN _ | omega) (by
                  rw [pA_s s0, ← hv]
                  first
                    | rw [zite_t ⟨⟨by omega, by omega⟩, by omega⟩]
                    | rw [zite_f (fun z => by have q1 := z.1.1; have q2 := z.1.2; have q3 := z.2; omega)]) (by omega)
            · have hm2 := hkr.min (j := 2 * v + 1 - c) (by omega) (by omega)
              rw [fL0_o hc] at hm2
              refine zT.aload_n 0 dX1_pupil_44 rfl rfl ?_
              refine zT.getR dX1_pupil_45 fX1_66 rfl (zPan.k hR.sh) (j := 7) (by decide) rfl ?_
              refine zT.getF dX1_pupil_48 fX1_243 rfl (zKit.k hR.ki.2.1.1) (j := 2) (by decide) rfl (zKit.f202 hR.ki.2.1.1) ?_
              refine zT.iconst dX1_pupil_51 ?_
              refine zT.iload 5 dX1_pupil_52 rfl ?_
              refine zT.imul dX1_pupil_54 ?_
              refine zT.iconst dX1_pupil_55 ?_
              refine zT.iadd dX1_pupil_56 ?_
              refine zT.iload_n 1 dX1_pupil_57 rfl rfl ?_
              refine zT.isub dX1_pupil_58 ?_
              refine zT.iald dX1_pupil_59 (zKit.a202 hR.ki.2.1.1) (by first | assumption | exact zq_i _ | exact zand_i _ _ | exact zor_i _ _ | exact zxor_i _ _ | exact zN _ | omega) (by rw [(zKit.n202 hR.ki.2.1.1)]; first | assumption | exact zq_i _ | exact zand_i _ _ | exact zor_i _ _ | exact zxor_i _ _ | exact zN _ | omega) (fun z59 => ?_)
              refine zT.aload_n 0 dX1_pupil_60 rfl rfl ?_
              refine zT.getR dX1_pupil_61 fX1_66 rfl (zPan.k hR.sh) (j := 7) (by decide) rfl ?_
              refine zT.getF dX1_pupil_64 fX1_243 rfl (zKit.k hR.ki.2.1.1) (j := 2) (by decide) rfl (zKit.f202 hR.ki.2.1.1) ?_
              refine zT.iconst dX1_pupil_67 ?_
              refine zT.iload 4 dX1_pupil_68 rfl ?_
              refine zT.imul dX1_pupil_70 ?_
              refine zT.iconst dX1_pupil_71 ?_
              refine zT.iadd dX1_pupil_72 ?_
              refine zT.iload_n 1 dX1_pupil_73 rfl rfl ?_
              refine zT.isub dX1_pupil_74 ?_
              refine zT.iald dX1_pupil_75 (zKit.a202 hR.ki.2.1.1) (by first | assumption | exact zq_i _ | exact zand_i _ _ | exact zor_i _ _ | exact zxor_i _ _ | exact zN _ | omega) (by rw [(zKit.n202 hR.ki.2.1.1)]; first | assumption | exact zq_i _ | exact zand_i _ _ | exact zor_i _ _ | exact zxor_i _ _ | exact zN _ | omega) (fun z75 => ?_)
              refine zT.ic_le (tgt := 83) dX1_pupil_76 (by decide) (by first | assumption | exact zq_i _ | exact zand_i _ _ | exact zor_i _ _ | exact zxor_i _ _ | exact zN _ | omega) (by first | assumption | exact zq_i _ | exact zand_i _ _ | exact zor_i _ _ | exact zxor_i _ _ | exact zN _ | omega) (fun c76 => ?_) (fun c76 => ?_)
              · refine zT.iinc 5 dX1_pupil_83 rfl (by decide) (zpre1 rfl (zcI _)) ?_
                show zT G _ _ _ [zR x, zI c, zI t, zR e, zI v, zI (s + 1)] _ _ _ _ _ _ _
                refine zT.goto (tgt := 6) dX1_pupil_86 (by decide) ?_
                exact ih6 _ _ (by first | assumption | exact zq_i _ | exact zand_i _ _ | exact zor_i _ _ | exact zxor_i _ _ | exact zN _ | omega) (by first | assumption | exact zq_i _ | exact zand_i _ _ | exact zor_i _ _ | exact zxor_i _ _ | exact zN _ | omega) (by
                    rw [pA_s s0, ← hv]
                    first
                      | rw [zite_t ⟨⟨by omega, by omega⟩, by omega⟩]
                      | rw [zite_f (fun z => by have q1 := z.1.1; have q2 := z.1.2; have q3 := z.2; omega)]) (by omega)
              · refine zT.iload 5 dX1_pupil_79 rfl ?_
                refine zT.istore 4 dX1_pupil_81 (by decide) (zpre1 rfl (zcR _)) ?_
                show zT G _ _ _ [zR x, zI c, zI t, zR e, zI s, zI s] _ _ _ _ _ _ _
                refine zT.iinc 5 dX1_pupil_83 rfl (by decide) (zpre1 rfl (zcI _)) ?_
                show zT G _ _ _ [zR x, zI c, zI t, zR e, zI s, zI (s + 1)] _ _ _ _ _ _ _
                refine zT.goto (tgt := 6) dX1_pupil_86 (by decide) ?_
                exact ih6 _ _ (by first | assumption | exact zq_i _ | exact zand_i _ _ | exact zor_i _ _ | exact zxor_i _ _ | exact zN _ | omega) (by first | assumption | exact zq_i _ | exact zand_i _ _ | exact zor_i _ _ | exact zxor_i _ _ | exact zN _ | omega) (by
                    rw [pA_s s0, ← hv]
                    first
                      | rw [zite_t ⟨⟨by omega, by omega⟩, by omega⟩]
                      | rw [zite_f (fun z => by have q1 := z.1.1; have q2 := z.1.2; have q3 := z.2; omega)]) (by omega)
  exact L6 _ _ _ (by first | assumption | exact zq_i _ | exact zand_i _ _ | exact zor_i _ _ | exact zxor_i _ _ | exact zN _ | omega) (by first | assumption | exact zq_i _ | exact zand_i _ _ | exact zor_i _ _ | exact zxor_i _ _ | exact zN _ | omega) (by rfl) (Nat.lt_succ_self _)

theorem C_X1_pupilK {G : zG} {S : zS} {m : zMm} {x : Int} {B : zMm} (hR : rel S m x B) {K : Int → Int} (hK : ∀ j, 0 ≤ j → j < 58 → K j = aK (B 0 1023) (B 2) j) {c t e : Int} {E : Int → Int} (hc : c = 0 ∨ c = 1) (ht : zi t) (ke : zk S e = 101) (ne : zn S e = 16) (hE : ∀ j, 0 ≤ j → j < 16 → m e j = E j) :
    zC G mX1_pupil 0 0 0 [zR x, zI c, zI t, zR e] S m (zDet (some (zI (pup K E c t (K 5)))) S m) zNX := by
  have h := C_X1_pupil (G := G) hR hc ht ke ne hE
  have hb := hR.vki.1.1
  rw [← hK 5 (by omega) (by omega)] at h hb
  have e1 : ∀ n : Nat, (n : Int) ≤ 8 → pA (aK (B 0 1023) (B 2)) E c (n : Int) = pA K E c (n : Int) := by
    intro n
    induction n with
    | zero => intro _; rfl
    | succ n ih =>
      intro hn
      rw [show ((n + 1 : Nat) : Int) = (n : Int) + 1 by omega, pA_s (by omega), pA_s (by omega), ih (by omega)]
      have hi := pA_b (K := K) (E := E) (c := c) n
      rw [← hK (8 + 3 * (n : Int) + (1 - c)) (by omega) (by omega)]
      rcases hi with ⟨q, _⟩ | ⟨q1, q2, _⟩
      · rw [q]
        exact zite_c (by simp) (fun _ => rfl) (fun _ => rfl)
      · rw [← hK (8 + 3 * pA K E c (n : Int) + (1 - c)) (by omega) (by omega)]
  have e2 := e1 (K 5).toNat (by omega)
  rw [show (((K 5).toNat : Nat) : Int) = K 5 by omega] at e2
  unfold pup at h ⊢
  rw [e2] at h
  exact h
theorem C_X1_masters {G : zG}  {S : zS} {m : zMm} {x : Int} {A : zMm} (hR : rel S m x A)  : zC G mX1_masters 4 8 2024 [zR x] S m (fun v S' m' => zPo S m x (some (zI (if (aK (A 0 1023) (A 2)) 5 = 0 then -1 else aends (aGo ((mRn (aK (A 0 1023) (A 2)) ((aK (A 0 1023) (A 2)) 5) 700 0 (uNil (uSnap (uLay A)), (fun _ => 0), (fun _ => 0))) 2) 58) ((mRn (aK (A 0 1023) (A 2)) ((aK (A 0 1023) (A 2)) 5) 700 0 (uNil (uSnap (uLay A)), (fun _ => 0), (fun _ => 0))) 2 58)))) (if (aK (A 0 1023) (A 2)) 5 = 0 then uLay A else (mRn (aK (A 0 1023) (A 2)) ((aK (A 0 1023) (A 2)) 5) 700 0 (uNil (uSnap (uLay A)), (fun _ => 0), (fun _ => 0)))) v S' m' ∧ ((aK (A 0 1023) (A 2)) 5 ≠ 0 → gSl ((aK (A 0 1023) (A 2)) 5) ((mRn (aK (A 0 1023) (A 2)) ((aK (A 0 1023) (A 2)) 5) 700 0 (uNil (uSnap (uLay A)), (fun _ => 0), (fun _ => 0))) 2 58) (aGo ((mRn (aK (A 0 1023) (A 2)) ((aK (A 0 1023) (A 2)) 5) 700 0 (uNil (uSnap (uLay A)), (fun _ => 0), (fun _ => 0))) 2) 58))) zNX := by
  have hk := hR.vki.1
  have hKi := (hR.ki.2.1).ki hk
  have hKn := hKi.nu
  have hkr := hR.ki.2.1
  have hkf := hkr.2.1
  have hk0 := hk.1
  have hL := hR.lay
  have hB : uLay A 0 1023 = 1 := uLay_bg hR.vbg
  have hK0 := uSL_K hR.vbg
  have hA0 := uSL_b hR.vbg
  refine zC.of [zR x, zU, zU, zU, zU, zU, zU] (by decide) rfl (zEn1 (zcR _) (zEn0 (by simp))) rfl ?_
  refine zT.aload_n 0 dX1_masters_0 rfl rfl ?_
  refine zT.getR dX1_masters_1 fX1_66 rfl (zPan.k hR.sh) (j := 7) (by decide) rfl ?_
  refine zT.getI dX1_masters_4 fX1_228 rfl (zKit.k hR.ki.2.1.1) (j := 8) (by decide) rfl (fun z4 => ?_)
  refine zT.if_ne (tgt := 12) dX1_masters_7 (by decide) (by first | assumption | exact zq_i _ | exact zand_i _ _ | exact zor_i _ _ | exact zxor_i _ _ | exact zN _ | omega) (fun c7 => ?_) (fun c7 => ?_)
  · refine zT.aload_n 0 dX1_masters_12 rfl rfl ?_
    refine zT.callV (M' := mX1_keep) (b := x) [] [] dX1_masters_13 kX1_270 rfl rfl (ci := 0) (r := (RX1, TX1, 42)) rfl (zPan.k hR.sh) (C_X1_keep hL) (by decide) (k' := 2) (n' := 18) (by omega) (by omega) (by decide) (fun v13 S13_ m13_ h13 => ?_) (fun _ _ _ _ h => h.elim)
    obtain ⟨rfl, g13, hR13, o13⟩ := h13
    show zT G _ _ _ _ [] _ _ _ _ _ _
    refine zT.aload_n 0 dX1_masters_16 rfl rfl ?_
    refine zT.getF dX1_masters_17 fX1_73 rfl (zPan.k hR13.sh) (j := 8) (by decide) rfl (zPan.f8 hR13.sh) ?_
    refine zT.iconst dX1_masters_20 ?_
    refine zT.putI dX1_masters_21 fX1_213 zs_305 rfl (zPlan.k (zPan.o8 hR13.sh)) (j := 5) (by decide) rfl (by first | assumption | exact zq_i _ | exact zand_i _ _ | exact zor_i _ _ | exact zxor_i _ _ | exact zN _ | omega) ?_
    obtain ⟨m1, em1⟩ : ∃ z, z = zup m13_ (x + 14) 305 0 := ⟨_, rfl⟩
    rw [← em1]
    refine zT.bipush dX1_masters_24 ?_
    refine zT.wfS (fun w26 => ?_)
    refine zT.wfX (fun u26 => ?_)
    refine zT.newa (κ := 101) dX1_masters_26 rfl (by decide) q324 (by first | assumption | exact zq_i _ | exact zand_i _ _ | exact zor_i _ _ | exact zxor_i _ _ | exact zN _ | omega) (by first | assumption | exact zq_i _ | exact zand_i _ _ | exact zor_i _ _ | exact zxor_i _ _ | exact zN _ | omega) (k' := 1) (n' := 2) (by omega) (by omega) ?_
    obtain ⟨p26, ep26⟩ : ∃ z, z = zx S13_ := ⟨_, rfl⟩
    rw [← ep26]
    obtain ⟨S2, eS2⟩ : ∃ z, z = zal S13_ 101 16 := ⟨_, rfl⟩
    rw [← eS2]
    have gS2 : zGr S13_ S2 := by rw [eS2]; exact zGr.al (zfr0 w26)
    have kS2 : zk S2 p26 = 101 := by rw [eS2, zk_al, ep26, if_pos rfl]
    have nS2 : zn S2 p26 = 16 := by rw [eS2, zn_al, ep26, if_pos rfl]
    have xS2 : zx S2 = p26 + 1 := by rw [eS2, zx_al, ep26]
    have zS2 : zk S13_ p26 = 0 := by rw [ep26]; exact zfr0 w26
    obtain ⟨m3, em3⟩ : ∃ z, z = znw m1 101 p26 := ⟨_, rfl⟩
    rw [← em3]
    refine zT.astore_n 1 dX1_masters_28 rfl (by decide) (zpre1 rfl (zcR _)) ?_
    show zT G _ _ _ [zR x, zR p26, zU, zU, zU, zU, zU] _ _ _ _ _ _ _
    refine zT.iconst dX1_masters_29 ?_
    refine zT.wfS (fun w30 => ?_)
    refine zT.wfX (fun u30 => ?_)
    refine zT.newa (κ := 101) dX1_masters_30 rfl (by decide) q324 (by first | assumption | exact zq_i _ | exact zand_i _ _ | exact zor_i _ _ | exact zxor_i _ _ | exact zN _ | omega) (by first | assumption | exact zq_i _ | exact zand_i _ _ | exact zor_i _ _ | exact zxor_i _ _ | exact zN _ | omega) (k' := 0) (n' := 0) (by omega) (by omega) ?_
    obtain ⟨p30, ep30⟩ : ∃ z, z = zx S2 := ⟨_, rfl⟩
    rw [← ep30]
    obtain ⟨S4, eS4⟩ : ∃ z, z = zal S2 101 2 := ⟨_, rfl⟩
    rw [← eS4]
    have gS4 : zGr S2 S4 := by rw [eS4]; exact zGr.al (zfr0 w30)
    have kS4 : zk S4 p30 = 101 := by rw [eS4, zk_al, ep30, if_pos rfl]
    have nS4 : zn S4 p30 = 2 := by rw [eS4, zn_al, ep30, if_pos rfl]
    have xS4 : zx S4 = p30 + 1 := by rw [eS4, zx_al, ep30]
    have zS4 : zk S2 p30 = 0 := by rw [ep30]; exact zfr0 w30
    obtain ⟨m5, em5⟩ : ∃ z, z = znw m3 101 p30 := ⟨_, rfl⟩
    rw [← em5]
    have kS4_p26 : zk S4 p26 = 101 := (gS4.2.1 p26 (by rw [kS2]; decide)).1.trans kS2
    have nS4_p26 : zn S4 p26 = 16 := (gS4.2.1 p26 (by rw [kS2]; decide)).2.1.trans nS2
    refine zT.astore_n 2 dX1_masters_32 rfl (by decide) (zpre1 rfl (zcR _)) ?_
    show zT G _ _ _ [zR x, zR p26, zR p30, zU, zU, zU, zU] _ _ _ _ _ _ _
    have gg : zGr S13_ S4 := gS2.tr gS4
    have hwd := hR13.wd.1
    have hQa : rel S13_ m1 x (uNil (uSnap (uLay A))) := by rw [em1]; exact hR13.nil hA0
    have hQb : rel S13_ m3 x (uNil (uSnap (uLay A))) := by rw [em3]; exact hQa.nwN zS2 (by omega)
    have z30 : zk S13_ p30 = 0 := by
          rcases Nat.eq_zero_or_pos (zk S13_ p30) with q | q
          · exact q
          · have q2 := (gS2.2.1 p30 (by omega)).1
            omega
    have hQ1 : rel S13_ m5 x (uNil (uSnap (uLay A))) := by rw [em5]; exact hQb.nwN z30 (by omega)
    have ho1 : zOut x m m5 := by rw [em5, em3, em1]; exact ((o13.up (by omega)).nw (by omega)).nw (by omega)
    have hE1 : ∀ j, 0 ≤ j → j < 16 → m5 p26 j = (fun _ => (0 : Int)) j := fun j _ _ => by rw [em5, znw_ne (by omega), em3, znw_at, zdf_i (by omega)]
    have hF1 : ∀ j, 0 ≤ j → j < 2 → m5 p30 j = (fun _ => (0 : Int)) j := fun j _ _ => by rw [em5, znw_at, zdf_i (by omega)]
    obtain ⟨T, hT9⟩ : ∃ z, z = fAll (aK (A 0 1023) (A 2)) ((aK (A 0 1023) (A 2)) 5) := ⟨_, rfl⟩
    have hTb := fAll_b hk (k := ((aK (A 0 1023) (A 2)) 5)) (by omega) (by omega)
    rw [← hT9] at hTb
    obtain ⟨R, hR9⟩ : ∃ z, z = mRn (aK (A 0 1023) (A 2)) ((aK (A 0 1023) (A 2)) 5) 700 0 (uNil (uSnap (uLay A)), (fun _ => 0), (fun _ => 0)) := ⟨_, rfl⟩
    have hR9 := hR9.symm
    have hkr9 : zKR S13_ m5 (m5 x 7) (aK (A 0 1023) (A 2)) := (hQ1.ki.2.1).kc (aPl.rf.nil.K hK0)
    have hl0 : 2 * ((aK (A 0 1023) (A 2)) 5) = acnt (fun j => (fun _ : Int => (0 : Int)) j = 0) (2 * ((aK (A 0 1023) (A 2)) 5)) := by have q : uNil (uSnap (uLay A)) 2 58 + acnt (fun j => (fun _ : Int => (0 : Int)) j = 0) (2 * ((aK (A 0 1023) (A 2)) 5)) = 2 * ((aK (A 0 1023) (A 2)) 5) := (mIv.s0 hk rfl (uNil_n (A := (uSnap (uLay A))))).2.2.2.2.2.2; rw [uNil_n, Int.zero_add] at q; exact q.symm
    refine zT.iconst dX1_masters_33 ?_
    refine zT.aload_n 0 dX1_masters_34 rfl rfl ?_
    refine zT.getR dX1_masters_35 fX1_66 rfl (zPan.k (hQ1.sh.gr gg)) (j := 7) (by decide) rfl ?_
    refine zT.getI dX1_masters_38 fX1_228 rfl (zKit.k (hQ1.ki.2.1.1.gr gg)) (j := 8) (by decide) rfl (fun z38 => ?_)
    rw [hkr9.2.1.2.2.2.2.2.1]
    show zT G _ _ _ _ [zI ((aK (A 0 1023) (A 2)) 5), zI 2] _ _ _ _ _ _
    refine zT.imul dX1_masters_41 ?_
    refine zT.istore_n 3 dX1_masters_42 rfl (by decide) (zpre1 rfl (zcR _)) ?_
    show zT G _ _ _ [zR x, zR p26, zR p30, zI (2 * ((aK (A 0 1023) (A 2)) 5)), zU, zU, zU] _ _ _ _ _ _ _
    refine zT.iconst dX1_masters_43 ?_
    refine zT.istore 4 dX1_masters_44 (by decide) (zpre1 rfl (zcI _)) ?_
    show zT G _ _ _ [zR x, zR p26, zR p30, zI (2 * ((aK (A 0 1023) (A 2)) 5)), zI 0, zU, zU] _ _ _ _ _ _ _
    have L46 : ∀ (N : Nat) (mA : zMm) (B0 : zMm) (E0 : Int → Int) (F0 : Int → Int) (l : Int) (t : Int) (f : Nat), (rel S13_ mA x B0) → (zOut x m mA) → (aPl (uSnap (uLay A)) B0) → (∀ j, 0 ≤ j → j < 16 → mA p26 j = E0 j) → (∀ j, 0 ≤ j → j < 2 → mA p30 j = F0 j) → (mIv (aK (A 0 1023) (A 2)) ((aK (A 0 1023) (A 2)) 5) T t (B0, E0, F0)) → (gSl ((aK (A 0 1023) (A 2)) 5) (B0 2 58) (aGo (B0 2) 58)) → (0 ≤ t) → (l = acnt (fun j => E0 j = 0) (2 * ((aK (A 0 1023) (A 2)) 5))) → (t + f = 700) → (mRn (aK (A 0 1023) (A 2)) ((aK (A 0 1023) (A 2)) 5) f t (B0, E0, F0) = R) → f < N → zT G mX1_masters 4 46 [zR x, zR p26, zR p30, zI l, zI t, zU, zU] [] S4 mA 0 0 (fun v S' m' => zPo S m x (some (zI (if (aK (A 0 1023) (A 2)) 5 = 0 then -1 else aends (aGo ((mRn (aK (A 0 1023) (A 2)) ((aK (A 0 1023) (A 2)) 5) 700 0 (uNil (uSnap (uLay A)), (fun _ => 0), (fun _ => 0))) 2) 58) ((mRn (aK (A 0 1023) (A 2)) ((aK (A 0 1023) (A 2)) 5) 700 0 (uNil (uSnap (uLay A)), (fun _ => 0), (fun _ => 0))) 2 58)))) (if (aK (A 0 1023) (A 2)) 5 = 0 then uLay A else (mRn (aK (A 0 1023) (A 2)) ((aK (A 0 1023) (A 2)) 5) 700 0 (uNil (uSnap (uLay A)), (fun _ => 0), (fun _ => 0)))) v S' m' ∧ ((aK (A 0 1023) (A 2)) 5 ≠ 0 → gSl ((aK (A 0 1023) (A 2)) 5) ((mRn (aK (A 0 1023) (A 2)) ((aK (A 0 1023) (A 2)) 5) 700 0 (uNil (uSnap (uLay A)), (fun _ => 0), (fun _ => 0))) 2 58) (aGo ((mRn (aK (A 0 1023) (A 2)) ((aK (A 0 1023) (A 2)) 5) 700 0 (uNil (uSnap (uLay A)), (fun _ => 0), (fun _ => 0))) 2) 58))) zNX := by
      intro N
      induction N with
      | zero => intro mA B0 E0 F0 l t f hQ0 hoA0 hP0 hE0 hF0 hI0 hs90 t00 hl hf hT hN; exact absurd hN (Nat.not_lt_zero _)
      | succ N ih46 =>
        intro mA B0 E0 F0 l t f hQ0 hoA0 hP0 hE0 hF0 hI0 hs90 t00 hl hf hT hN
        have hlb := acnt_b (P := fun j => E0 j = 0) (k := 2 * ((aK (A 0 1023) (A 2)) 5)) (by omega)
        rw [← hl] at hlb
        have hW0 : 0 ≤ mW (aK (A 0 1023) (A 2)) E0 ((aK (A 0 1023) (A 2)) 5) := (zs_b (B := 20) (by omega) (fun j a b => by have := fL0_b hk a (by omega); split <;> omega)).1
        have hI5 := hI0.2.2.2.2.1
        have hab := acnt_b (P := fun j => E0 j = 0) (k := 2 * ((aK (A 0 1023) (A 2)) 5)) (by omega)
        have hI6 := hI0.2.2.2.2.2
        have hI2 := hI0.2.1
        simp only at hI5 hI6 hI2
        refine zT.iload_n 3 dX1_masters_46 rfl rfl ?_
        refine zT.if_le (tgt := 177) dX1_masters_47 (by decide) (by first | assumption | exact zq_i _ | exact zand_i _ _ | exact zor_i _ _ | exact zxor_i _ _ | exact zN _ | omega) (fun c47 => ?_) (fun c47 => ?_)
        · have hal : mAl ((aK (A 0 1023) (A 2)) 5) E0 := (mAl_i (by omega)).mp (by omega)
          have hRB : B0 = R := by rw [← hT, mRn_0 hal]
          subst hRB
          have hpl9 := hQ0.pl
          have hpv9 := hQ0.vpl
          have hPl9 := hpl9.pl hpv9
          refine zT.aload_n 0 dX1_masters_177 rfl rfl ?_
          refine zT.getF dX1_masters_178 fX1_73 rfl (zPan.k (hQ0.sh.gr gg)) (j := 8) (by decide) rfl (zPan.f8 (hQ0.sh.gr gg)) ?_
          refine zT.callV (M' := mX4_ends) (b := (x + 14)) [] [] dX1_masters_181 kX1_296 rfl rfl (ci := 3) (r := (RX4, TX4, 6)) rfl (zPlan.k (zPan.o8 (hQ0.sh.gr gg))) (C_X4_ends (hQ0.pl.1.gr gg) hPl9) (by decide) (k' := 0) (n' := 0) (by omega) (by omega) (by decide) (zdk (v := some (zI (zends mA (x + 14) (mA (x + 14) 305)))) ?_) (fun _ _ _ _ h => h.elim)
          show zT G _ _ _ _ [zI (zends mA (x + 14) (mA (x + 14) 305))] _ _ _ _ _ _
          refine zT.iret dX1_masters_184 rfl ?_
          have he := zends_a hpl9 (Int.le_refl _)
          rw [hR9]
          refine ⟨?_, fun _ => hs90⟩
          rw [if_neg (by omega), if_neg (by omega)]
          exact ⟨by rw [hpl9.2.1, he], g13.tr gg, hQ0.wgr gg, hoA0⟩
        · obtain ⟨ST, hST⟩ : ∃ z, z = mRs (aK (A 0 1023) (A 2)) ((aK (A 0 1023) (A 2)) 5) t 0 (B0, E0, F0) := ⟨_, rfl⟩
          have hnal : ¬ mAl ((aK (A 0 1023) (A 2)) 5) E0 := fun z => by have q := (mAl_i (by omega)).mpr z; omega
          obtain ⟨f, rfl⟩ : ∃ g, f = g + 1 := ⟨f - 1, by omega⟩
          refine zT.iconst dX1_masters_50 ?_
          refine zT.istore 5 dX1_masters_51 (by decide) (zpre1 rfl (zcI _)) ?_
          show zT G _ _ _ [zR x, zR p26, zR p30, zI l, zI t, zI 0, zU] _ _ _ _ _ _ _
          have L53 : ∀ (N : Nat) (mB : zMm) (B : zMm) (E : Int → Int) (F : Int → Int) (l : Int) (c : Int), (rel S13_ mB x B) → (zOut x m mB) → (aPl (uSnap (uLay A)) B) → (∀ j, 0 ≤ j → j < 16 → mB p26 j = E j) → (∀ j, 0 ≤ j → j < 2 → mB p30 j = F j) → (mIv (aK (A 0 1023) (A 2)) ((aK (A 0 1023) (A 2)) 5) T t (B, E, F)) → (gSl ((aK (A 0 1023) (A 2)) 5) (B 2 58) (aGo (B 2) 58)) → (0 ≤ t) → (l = acnt (fun j => E j = 0) (2 * ((aK (A 0 1023) (A 2)) 5))) → (0 ≤ c) → (c ≤ 2) → (mRs (aK (A 0 1023) (A 2)) ((aK (A 0 1023) (A 2)) 5) t c (B, E, F) = ST) → ((2 - c).toNat) < N → zT G mX1_masters 4 53 [zR x, zR p26, zR p30, zI l, zI t, zI c, zU] [] S4 mB 0 0 (fun v S' m' => zPo S m x (some (zI (if (aK (A 0 1023) (A 2)) 5 = 0 then -1 else aends (aGo ((mRn (aK (A 0 1023) (A 2)) ((aK (A 0 1023) (A 2)) 5) 700 0 (uNil (uSnap (uLay A)), (fun _ => 0), (fun _ => 0))) 2) 58) ((mRn (aK (A 0 1023) (A 2)) ((aK (A 0 1023) (A 2)) 5) 700 0 (uNil (uSnap (uLay A)), (fun _ => 0), (fun _ => 0))) 2 58)))) (if (aK (A 0 1023) (A 2)) 5 = 0 then uLay A else (mRn (aK (A 0 1023) (A 2)) ((aK (A 0 1023) (A 2)) 5) 700 0 (uNil (uSnap (uLay A)), (fun _ => 0), (fun _ => 0)))) v S' m' ∧ ((aK (A 0 1023) (A 2)) 5 ≠ 0 → gSl ((aK (A 0 1023) (A 2)) 5) ((mRn (aK (A 0 1023) (A 2)) ((aK (A 0 1023) (A 2)) 5) 700 0 (uNil (uSnap (uLay A)), (fun _ => 0), (fun _ => 0))) 2 58) (aGo ((mRn (aK (A 0 1023) (A 2)) ((aK (A 0 1023) (A 2)) 5) 700 0 (uNil (uSnap (uLay A)), (fun _ => 0), (fun _ => 0))) 2) 58))) zNX := by
            intro N
            induction N with
            | zero => intro mB B E F l c hQ hoA hP hE hF hI hs9 t0 hl c0 c2 hT2 hN; exact absurd hN (Nat.not_lt_zero _)
            | succ N ih53 =>
              intro mB B E F l c hQ hoA hP hE hF hI hs9 t0 hl c0 c2 hT2 hN
              have hW0 : 0 ≤ mW (aK (A 0 1023) (A 2)) E ((aK (A 0 1023) (A 2)) 5) := (zs_b (B := 20) (by omega) (fun j a b => by have := fL0_b hk a (by omega); split <;> omega)).1
              have hI5 := hI.2.2.2.2.1
              have hab := acnt_b (P := fun j => E j = 0) (k := 2 * ((aK (A 0 1023) (A 2)) 5)) (by omega)
              have hI6 := hI.2.2.2.2.2
              have hI2 := hI.2.1
              simp only at hI5 hI6 hI2
              refine zT.iload 5 dX1_masters_53 rfl ?_
              refine zT.iconst dX1_masters_55 ?_
              refine zT.ic_ge (tgt := 171) dX1_masters_56 (by decide) (by first | assumption | exact zq_i _ | exact zand_i _ _ | exact zor_i _ _ | exact zxor_i _ _ | exact zN _ | omega) (by first | assumption | exact zq_i _ | exact zand_i _ _ | exact zor_i _ _ | exact zxor_i _ _ | exact zN _ | omega) (fun c56 => ?_) (fun c56 => ?_)
              · have hc2 : c = 2 := by omega
                subst hc2
                rw [mRs_2] at hT2
                have hSS : mSt (aK (A 0 1023) (A 2)) ((aK (A 0 1023) (A 2)) 5) t 1 (mSt (aK (A 0 1023) (A 2)) ((aK (A 0 1023) (A 2)) 5) t 0 (B0, E0, F0)) = (B, E, F) := by
                                  rw [hT2, hST]
                                  rfl
                have hbz : t < F 0 ∨ t < F 1 := by have q := mSt_p hI0 hk rfl t00 hnal; rw [hSS] at q; exact q
                refine zT.iinc 4 dX1_masters_171 rfl (by decide) (zpre1 rfl (zcI _)) ?_
                show zT G _ _ _ [zR x, zR p26, zR p30, zI l, zI (t + 1), zI 2, zU] _ _ _ _ _ _ _
                refine zT.goto (tgt := 46) dX1_masters_174 (by decide) ?_
                refine zT.loc (V' := [zR x, zR p26, zR p30, zI l, zI (t + 1), zU, zU]) ?_ ⟨Or.inr rfl, Or.inr rfl, Or.inr rfl, Or.inr rfl, Or.inr rfl, Or.inl rfl, Or.inr rfl, trivial⟩
                exact ih46 _ _ _ _ _ _ f (by exact hQ) (by exact hoA) (by exact hP) (by exact hE) (by exact hF) (by exact hI.nx hbz) (by exact hs9) (by omega) (by exact hl) (by omega) (by rw [← hT, mRn_1 hnal, ← hSS]) (by omega)
              · have hc9 : c = 0 ∨ c = 1 := by omega
                have hFc := hF c (by omega) (by omega)
                have hkr9 : zKR S13_ mB (mB x 7) (aK (A 0 1023) (A 2)) := (hQ.ki.2.1).kc (hP.K hK0)
                have hpn := hQ.pl.2.1
                have hn58 := hQ.vpl.1
                refine zT.aload_n 2 dX1_masters_59 rfl rfl ?_
                refine zT.iload 5 dX1_masters_60 rfl ?_
                refine zT.iald dX1_masters_62 kS4 (by first | assumption | exact zq_i _ | exact zand_i _ _ | exact zor_i _ _ | exact zxor_i _ _ | exact zN _ | omega) (by rw [nS4]; first | assumption | exact zq_i _ | exact zand_i _ _ | exact zor_i _ _ | exact zxor_i _ _ | exact zN _ | omega) (fun z62 => ?_)
                refine zT.iload 4 dX1_masters_63 rfl ?_
                refine zT.ic_le (tgt := 71) dX1_masters_65 (by decide) (by first | assumption | exact zq_i _ | exact zand_i _ _ | exact zor_i _ _ | exact zxor_i _ _ | exact zN _ | omega) (by first | assumption | exact zq_i _ | exact zand_i _ _ | exact zor_i _ _ | exact zxor_i _ _ | exact zN _ | omega) (fun c65 => ?_) (fun c65 => ?_)
                · refine zT.aload_n 0 dX1_masters_71 rfl rfl ?_
                  refine zT.iload 5 dX1_masters_72 rfl ?_
                  refine zT.iload 4 dX1_masters_74 rfl ?_
                  refine zT.aload_n 1 dX1_masters_76 rfl rfl ?_
                  refine zT.callV (M' := mX1_pupil) (b := x) [zI c, zI t, zR p26] [] dX1_masters_77 kX1_386 rfl rfl (ci := 0) (r := (RX1, TX1, 42)) rfl (zPan.k (hQ.sh.gr gg)) (C_X1_pupilK (hQ.wgr gg) (hP.K hK0) hc9 (by omega) kS4_p26 nS4_p26 hE) (by decide) (k' := 0) (n' := 0) (by omega) (by omega) (by decide) (zdk (v := some (zI (pup (aK (A 0 1023) (A 2)) E c t ((aK (A 0 1023) (A 2)) 5)))) ?_) (fun _ _ _ _ h => h.elim)
                  show zT G _ _ _ _ [zI (pup (aK (A 0 1023) (A 2)) E c t ((aK (A 0 1023) (A 2)) 5))] _ _ _ _ _ _
                  have hpi := pup_i (K := (aK (A 0 1023) (A 2))) (E := E) (c := c) (m := t) (n := ((aK (A 0 1023) (A 2)) 5)) (by omega) hc9 (fun _ _ _ => Or.inr (Or.inr trivial))
                  obtain ⟨s, hs⟩ : ∃ z, z = pup (aK (A 0 1023) (A 2)) E c t ((aK (A 0 1023) (A 2)) 5) := ⟨_, rfl⟩
                  rw [← hs] at hpi ⊢
                  refine zT.istore 6 dX1_masters_80 (by decide) (zpre1 rfl (zcI _)) ?_
                  show zT G _ _ _ [zR x, zR p26, zR p30, zI l, zI t, zI c, zI s] _ _ _ _ _ _ _
                  refine zT.iload 6 dX1_masters_82 rfl ?_
                  refine zT.iconst dX1_masters_84 ?_
                  refine zT.ic_ne (tgt := 91) dX1_masters_85 (by decide) (by first | assumption | exact zq_i _ | exact zand_i _ _ | exact zor_i _ _ | exact zxor_i _ _ | exact zN _ | omega) (by first | assumption | exact zq_i _ | exact zand_i _ _ | exact zor_i _ _ | exact zxor_i _ _ | exact zN _ | omega) (fun c85 => ?_) (fun c85 => ?_)
                  · obtain ⟨s0, s1, hEs⟩ : 0 ≤ s ∧ s < ((aK (A 0 1023) (A 2)) 5) ∧ E (2 * s + c) = 0 := by rcases hpi with q | q; exact absurd q.1 (by omega); exact q
                    have hks := hk.2.1 s s0 (by omega)
                    have hmi := hkr9.min (j := 2 * s + c) (by omega) (by omega)
                    rw [fL0_k hc9] at hmi
                    have hkl : 1 ≤ (aK (A 0 1023) (A 2)) (8 + 3 * s + c) ∧ (aK (A 0 1023) (A 2)) (8 + 3 * s + c) ≤ 20 := by rcases hc9 with rfl | rfl <;> omega
                    have hI3 := hI.tk hk rfl t0 hc9 (by show F c ≤ t; omega) s0 s1 hEs hI6.1
                    refine zT.aload_n 0 dX1_masters_91 rfl rfl ?_
                    refine zT.getF dX1_masters_92 fX1_73 rfl (zPan.k (hQ.sh.gr gg)) (j := 8) (by decide) rfl (zPan.f8 (hQ.sh.gr gg)) ?_
                    refine zT.iload 6 dX1_masters_95 rfl ?_
                    refine zT.iload 5 dX1_masters_97 rfl ?_
                    refine zT.iload 4 dX1_masters_99 rfl ?_
                    refine zT.iload 5 dX1_masters_101 rfl ?_
                    refine zT.aload_n 0 dX1_masters_103 rfl rfl ?_
                    refine zT.getR dX1_masters_104 fX1_66 rfl (zPan.k (hQ.sh.gr gg)) (j := 7) (by decide) rfl ?_
                    refine zT.getF dX1_masters_107 fX1_243 rfl (zKit.k (hQ.ki.2.1.1.gr gg)) (j := 2) (by decide) rfl (zKit.f202 (hQ.ki.2.1.1.gr gg)) ?_
                    refine zT.iconst dX1_masters_110 ?_
                    refine zT.iload 6 dX1_masters_111 rfl ?_
                    refine zT.imul dX1_masters_113 ?_
                    refine zT.iload 5 dX1_masters_114 rfl ?_
                    refine zT.iadd dX1_masters_116 ?_
                    refine zT.iald dX1_masters_117 (zKit.a202 (hQ.ki.2.1.1.gr gg)) (by first | assumption | exact zq_i _ | exact zand_i _ _ | exact zor_i _ _ | exact zxor_i _ _ | exact zN _ | omega) (by rw [(zKit.n202 (hQ.ki.2.1.1.gr gg))]; first | assumption | exact zq_i _ | exact zand_i _ _ | exact zor_i _ _ | exact zxor_i _ _ | exact zN _ | omega) (fun z117 => ?_)
                    rw [hmi]
                    show zT G _ _ _ _ [zI ((aK (A 0 1023) (A 2)) (8 + 3 * s + c)), zI c, zI t, zI c, zI s, zR (x + 14)] _ _ _ _ _ _
                    refine zT.callV (M' := mX4_go) (b := (x + 14)) [zI s, zI c, zI t, zI c, zI ((aK (A 0 1023) (A 2)) (8 + 3 * s + c))] [] dX1_masters_118 kX1_335 rfl rfl (ci := 3) (r := (RX4, TX4, 6)) rfl (zPlan.k (zPan.o8 (hQ.sh.gr gg))) (C_X4_go (hQ.pl.1.gr gg) (by omega) (by omega) (by omega) (by omega) (by omega) (by omega) (by omega)) (by decide) (k' := 0) (n' := 0) (by omega) (by omega) (by decide) (zdk (v := some (zI (mB (x + 14) 305))) ?_) (fun _ _ _ _ h => h.elim)
                    show zT G _ _ _ _ [zI (mB (x + 14) 305)] _ _ _ _ _ _
                    obtain ⟨m6, em6⟩ : ∃ z, z = zgo mB (x + 14) s c t c ((aK (A 0 1023) (A 2)) (8 + 3 * s + c)) := ⟨_, rfl⟩
                    rw [← em6]
                    have hQg : rel S13_ m6 x (uGo B s c t c ((aK (A 0 1023) (A 2)) (8 + 3 * s + c))) := by rw [em6]; exact hQ.go (by rw [hP.bg, hA0]) (by omega) (by omega)
                    have hog : zOut x m m6 := by rw [em6]; exact hoA.go
                    have hP2 : aPl (uSnap (uLay A)) (uGo B s c t c ((aK (A 0 1023) (A 2)) (8 + 3 * s + c))) := hP.go (by omega) (by omega)
                    have hkrg : zKR S13_ m6 (m6 x 7) (aK (A 0 1023) (A 2)) := (hQg.ki.2.1).kc (hP2.K hK0)
                    have hmg := hkrg.min (j := 2 * s + c) (by omega) (by omega)
                    rw [fL0_k hc9] at hmg
                    have hEg : ∀ j, 0 ≤ j → j < 16 → m6 p26 j = E j := fun j a b => by rw [em6, zgo_ne (by omega)]; exact hE j a b
                    have hFg : ∀ j, 0 ≤ j → j < 2 → m6 p30 j = F j := fun j a b => by rw [em6, zgo_ne (by omega)]; exact hF j a b
                    refine zT.pop dX1_masters_121 (zcI _) ?_
                    refine zT.aload_n 1 dX1_masters_122 rfl rfl ?_
                    refine zT.iconst dX1_masters_123 ?_
                    refine zT.iload 6 dX1_masters_124 rfl ?_
                    refine zT.imul dX1_masters_126 ?_
                    refine zT.iload 5 dX1_masters_127 rfl ?_
                    refine zT.iadd dX1_masters_129 ?_
                    refine zT.iload 4 dX1_masters_130 rfl ?_
                    refine zT.aload_n 0 dX1_masters_132 rfl rfl ?_
                    refine zT.getR dX1_masters_133 fX1_66 rfl (zPan.k (hQ.sh.gr gg)) (j := 7) (by decide) rfl ?_
                    refine zT.getF dX1_masters_136 fX1_243 rfl (zKit.k (hQg.ki.2.1.1.gr gg)) (j := 2) (by decide) rfl (zKit.f202 (hQg.ki.2.1.1.gr gg)) ?_
                    refine zT.iconst dX1_masters_139 ?_
                    refine zT.iload 6 dX1_masters_140 rfl ?_
                    refine zT.imul dX1_masters_142 ?_
                    refine zT.iload 5 dX1_masters_143 rfl ?_
                    refine zT.iadd dX1_masters_145 ?_
                    refine zT.iald dX1_masters_146 (zKit.a202 (hQg.ki.2.1.1.gr gg)) (by first | assumption | exact zq_i _ | exact zand_i _ _ | exact zor_i _ _ | exact zxor_i _ _ | exact zN _ | omega) (by rw [(zKit.n202 (hQg.ki.2.1.1.gr gg))]; first | assumption | exact zq_i _ | exact zand_i _ _ | exact zor_i _ _ | exact zxor_i _ _ | exact zN _ | omega) (fun z146 => ?_)
                    rw [hmg]
                    show zT G _ _ _ _ [zI ((aK (A 0 1023) (A 2)) (8 + 3 * s + c)), zI t, zI ((2 * s) + c), zR p26] _ _ _ _ _ _
                    refine zT.iadd dX1_masters_147 ?_
                    refine zT.iast dX1_masters_148 kS4_p26 (by first | assumption | exact zq_i _ | exact zand_i _ _ | exact zor_i _ _ | exact zxor_i _ _ | exact zN _ | omega) (by rw [nS4_p26]; first | assumption | exact zq_i _ | exact zand_i _ _ | exact zor_i _ _ | exact zxor_i _ _ | exact zN _ | omega) (by first | assumption | exact zq_i _ | exact zand_i _ _ | exact zor_i _ _ | exact zxor_i _ _ | exact zN _ | omega) ?_
                    obtain ⟨m7, em7⟩ : ∃ z, z = zup m6 p26 ((2 * s) + c) (t + ((aK (A 0 1023) (A 2)) (8 + 3 * s + c))) := ⟨_, rfl⟩
                    rw [← em7]
                    refine zT.aload_n 2 dX1_masters_149 rfl rfl ?_
                    refine zT.iload 5 dX1_masters_150 rfl ?_
                    refine zT.aload_n 1 dX1_masters_152 rfl rfl ?_
                    refine zT.iconst dX1_masters_153 ?_
                    refine zT.iload 6 dX1_masters_154 rfl ?_
                    refine zT.imul dX1_masters_156 ?_
                    refine zT.iload 5 dX1_masters_157 rfl ?_
                    refine zT.iadd dX1_masters_159 ?_
                    refine zT.iald dX1_masters_160 kS4_p26 (by first | assumption | exact zq_i _ | exact zand_i _ _ | exact zor_i _ _ | exact zxor_i _ _ | exact zN _ | omega) (by rw [nS4_p26]; first | assumption | exact zq_i _ | exact zand_i _ _ | exact zor_i _ _ | exact zxor_i _ _ | exact zN _ | omega) (fun z160 => ?_)
                    have r160 : m7 p26 ((2 * s) + c) = t + ((aK (A 0 1023) (A 2)) (8 + 3 * s + c)) := by rw [em7, zup_at]
                    rw [r160] at z160 ⊢
                    refine zT.iast dX1_masters_161 kS4 (by first | assumption | exact zq_i _ | exact zand_i _ _ | exact zor_i _ _ | exact zxor_i _ _ | exact zN _ | omega) (by rw [nS4]; first | assumption | exact zq_i _ | exact zand_i _ _ | exact zor_i _ _ | exact zxor_i _ _ | exact zN _ | omega) (by first | assumption | exact zq_i _ | exact zand_i _ _ | exact zor_i _ _ | exact zxor_i _ _ | exact zN _ | omega) ?_
                    obtain ⟨m8, em8⟩ : ∃ z, z = zup m7 p30 c (t + ((aK (A 0 1023) (A 2)) (8 + 3 * s + c))) := ⟨_, rfl⟩
                    rw [← em8]
                    have hQ2 : rel S13_ m8 x (uGo B s c t c ((aK (A 0 1023) (A 2)) (8 + 3 * s + c))) := by rw [em8, em7]; exact (hQg.upN zS2 (by omega)).upN z30 (by omega)
                    have ho2 : zOut x m m8 := by rw [em8, em7]; exact (hog.up (by omega)).up (by omega)
                    have hE2 : ∀ j, 0 ≤ j → j < 16 → m8 p26 j = fSet E (2 * s + c) (t + (aK (A 0 1023) (A 2)) (8 + 3 * s + c)) j := fun j j0 j1 => by
                                          rw [em8, zup_ne (by omega), em7]
                                          by_cases q : j = 2 * s + c
                                          · rw [q, zup_at, fSet_at]
                                          · rw [zup_ne (by omega), fSet_ne q]; exact hEg j j0 j1
                    have hF2 : ∀ j, 0 ≤ j → j < 2 → m8 p30 j = fSet F c (t + (aK (A 0 1023) (A 2)) (8 + 3 * s + c)) j := fun j j0 j1 => by
                                          rw [em8]
                                          by_cases q : j = c
                                          · rw [q, zup_at, fSet_at]
                                          · rw [zup_ne (by omega), fSet_ne q, em7, zup_ne (by omega)]; exact hFg j j0 j1
                    have hl2 : l - 1 = acnt (fun j => fSet E (2 * s + c) (t + (aK (A 0 1023) (A 2)) (8 + 3 * s + c)) j = 0) (2 * ((aK (A 0 1023) (A 2)) 5)) := by
                                          have q := hI3.2.2.2.2.2.2
                                          have q2 := hI6.2
                                          simp only [mTk, uGo_n] at q
                                          omega
                    refine zT.iinc 3 dX1_masters_162 rfl (by decide) (zpre1 rfl (zcR _)) ?_
                    show zT G _ _ _ [zR x, zR p26, zR p30, zI (l + (-1)), zI t, zI c, zI s] _ _ _ _ _ _ _
                    refine zT.iinc 5 dX1_masters_165 rfl (by decide) (zpre1 rfl (zcI _)) ?_
                    show zT G _ _ _ [zR x, zR p26, zR p30, zI (l + (-1)), zI t, zI (c + 1), zI s] _ _ _ _ _ _ _
                    refine zT.goto (tgt := 53) dX1_masters_168 (by decide) ?_
                    refine zT.loc (V' := [zR x, zR p26, zR p30, zI (l + (-1)), zI t, zI (c + 1), zU]) ?_ ⟨Or.inr rfl, Or.inr rfl, Or.inr rfl, Or.inr rfl, Or.inr rfl, Or.inr rfl, Or.inl rfl, trivial⟩
                    exact ih53 _ _ _ _ _ _ (by exact hQ2) (by exact ho2) (by exact hP2) (by exact hE2) (by exact hF2) (by exact hI3) (by exact hs9.go hI6.1 (by omega)) (by exact t0) (by exact hl2) (by omega) (by omega) (by
                        rw [← hT2, mRs_s c0 (by omega), mSt_t (s := s) (show ¬ t < F c by omega) hs.symm (by omega)]
                        rfl) (by omega)
                  · refine zT.goto (tgt := 165) dX1_masters_88 (by decide) ?_
                    refine zT.iinc 5 dX1_masters_165 rfl (by decide) (zpre1 rfl (zcI _)) ?_
                    show zT G _ _ _ [zR x, zR p26, zR p30, zI l, zI t, zI (c + 1), zI s] _ _ _ _ _ _ _
                    refine zT.goto (tgt := 53) dX1_masters_168 (by decide) ?_
                    refine zT.loc (V' := [zR x, zR p26, zR p30, zI l, zI t, zI (c + 1), zU]) ?_ ⟨Or.inr rfl, Or.inr rfl, Or.inr rfl, Or.inr rfl, Or.inr rfl, Or.inr rfl, Or.inl rfl, trivial⟩
                    exact ih53 _ _ _ _ _ _ (by exact hQ) (by exact hoA) (by exact hP) (by exact hE) (by exact hF) (by exact hI) (by exact hs9) (by exact t0) (by exact hl) (by omega) (by omega) (by
                        rw [← hT2, mRs_s c0 (by omega)]
                        first
                          | rw [mSt_u (Or.inl (show t < F c by omega))]
                          | rw [mSt_u (Or.inr (hs.symm.trans (by omega)))]) (by omega)
                · refine zT.goto (tgt := 165) dX1_masters_68 (by decide) ?_
                  refine zT.iinc 5 dX1_masters_165 rfl (by decide) (zpre1 rfl (zcI _)) ?_
                  show zT G _ _ _ [zR x, zR p26, zR p30, zI l, zI t, zI (c + 1), zU] _ _ _ _ _ _ _
                  refine zT.goto (tgt := 53) dX1_masters_168 (by decide) ?_
                  exact ih53 _ _ _ _ _ _ (by exact hQ) (by exact hoA) (by exact hP) (by exact hE) (by exact hF) (by exact hI) (by exact hs9) (by exact t0) (by exact hl) (by omega) (by omega) (by
                      rw [← hT2, mRs_s c0 (by omega)]
                      first
                        | rw [mSt_u (Or.inl (show t < F c by omega))]
                        | rw [mSt_u (Or.inr (hs.symm.trans (by omega)))]) (by omega)
          exact L53 _ _ _ _ _ _ _ (by exact hQ0) (by exact hoA0) (by exact hP0) (by exact hE0) (by exact hF0) (by exact hI0) (by exact hs90) (by omega) (by exact hl) (by first | assumption | exact zq_i _ | exact zand_i _ _ | exact zor_i _ _ | exact zxor_i _ _ | exact zN _ | omega) (by first | assumption | exact zq_i _ | exact zand_i _ _ | exact zor_i _ _ | exact zxor_i _ _ | exact zN _ | omega) (by exact hST.symm) (Nat.lt_succ_self _)
    exact L46 _ _ _ _ _ _ _ 700 (by exact hQ1) (by exact ho1) (by exact aPl.rf.nil) (by exact hE1) (by exact hF1) (by rw [hT9]; exact mIv.s0 hk rfl uNil_n) (by exact fun k a b => by rw [uNil_n] at b; omega) (by omega) (by exact hl0) (by rfl) (by exact hR9) (Nat.lt_succ_self _)
  · refine zT.iconst dX1_masters_10 ?_
    refine zT.iret dX1_masters_11 rfl ?_
    exact ⟨by rw [if_pos (by omega), if_pos (by omega)]; exact ⟨rfl, zGr.rf, hL, zOut.rf⟩, fun q => absurd (by omega) q⟩

