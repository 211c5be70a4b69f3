/-! PanSlices.restore (written by gen/m_res.py) -/
theorem C_X1_restore {G : zG}  {S : zS} {m : zMm} {x : Int} {A : zMm} (hR : rel S m x A) {k : Int} (hk1 : zi k) : zC G mX1_restore 3 0 0 [zR x, zI k] S m (zPo S m x (some (zI (if (0 ≤ k ∧ k ≤ 1) ∧ A 9 k = 1 then 1 else 0))) (if (0 ≤ k ∧ k ≤ 1) ∧ A 9 k = 1 then uRes (uLay A) k else uLay A)) zNX := by
  have hk := hR.vki.1
  have hKi := (hR.ki.2.1).ki hk
  have hKn := hKi.nu
  have hkr := hR.ki.2.1
  have hkf := hkr.2.1
  have hk0 := hk.1
  have hpl := hR.pl
  have hpv := hR.vpl
  have hPl := hpl.pl hpv
  have hPl0 := hPl.1
  have hPl1 := hPl.2.1
  have hgn := hpl.2.1
  have hwd := hR.wd.1
  have hL := hR.lay
  have hB : uLay A 0 1023 = 1 := uLay_bg hR.vbg
  refine zC.of [zR x, zI k] (by decide) rfl (zEn1 (zcR _) (zEn1 (zcI _) (zEn0 (by simp)))) rfl ?_
  refine zT.wfS (fun w0 => ?_)
  have hx9 := (w0 x (by rw [hR.sh.k]; omega)).1
  refine zT.iload_n 1 dX1_restore_0 rfl rfl ?_
  refine zT.iconst dX1_restore_1 ?_
  refine zT.iconst dX1_restore_2 ?_
  refine zT.callS (M' := mX1_isIn) [zI k, zI 0, zI 1] [] dX1_restore_3 kX1_231 rfl rfl (C_X1_isIn (by first | assumption | exact zq_i _ | exact zand_i _ _ | exact zor_i _ _ | exact zxor_i _ _ | exact zN _ | omega) (by first | assumption | exact zq_i _ | exact zand_i _ _ | exact zor_i _ _ | exact zxor_i _ _ | exact zN _ | omega) (by first | assumption | exact zq_i _ | exact zand_i _ _ | exact zor_i _ _ | exact zxor_i _ _ | exact zN _ | omega)) (by decide) (k' := 0) (n' := 0) (by omega) (by omega) (by decide) (zdk (v := some (zI (zq (0 ≤ k ∧ k ≤ 1)))) ?_) (fun _ _ _ _ h => h.elim)
  show zT G _ _ _ _ [zI (zq (0 ≤ k ∧ k ≤ 1))] _ _ _ _ _ _
  refine zT.if_eqB (tgt := 18) dX1_restore_6 (by decide) (fun c6 => ?_) (fun c6 => ?_)
  · refine zT.iconst dX1_restore_18 ?_
    refine zT.zret dX1_restore_19 rfl (by omega) ?_
    have h8 : ¬ ((0 ≤ k ∧ k ≤ 1) ∧ A 9 k = 1) := by
      intro q
      first
        | omega
        | (rcases hR.im.1 k (by omega) (by omega) with z | z
           · omega
           · have := z.2.1
             omega)
    rw [if_neg h8, if_neg h8]
    exact ⟨rfl, zGr.rf, hL, zOut.rf⟩
  · refine zT.aload_n 0 dX1_restore_9 rfl rfl ?_
    refine zT.getF dX1_restore_10 fX1_182 rfl (zPan.k hR.sh) (j := 40) (by decide) rfl (zPan.f40 hR.sh) ?_
    refine zT.iload_n 1 dX1_restore_13 rfl rfl ?_
    refine zT.aald dX1_restore_14 (by rw [(zPan.a40 hR.sh)]; decide) (by first | assumption | exact zq_i _ | exact zand_i _ _ | exact zor_i _ _ | exact zxor_i _ _ | exact zN _ | omega) (by rw [(zPan.n40 hR.sh)]; first | assumption | exact zq_i _ | exact zand_i _ _ | exact zor_i _ _ | exact zxor_i _ _ | exact zN _ | omega) ?_
    refine zT.ifnonnull (tgt := 20) dX1_restore_15 (by decide) (fun c15 => ?_) (fun c15 => ?_)
    · have h9 : A 9 k = 1 := by
        rcases hR.im.1 k (by omega) (by omega) with z | z
        · omega
        · exact z.1
      have him := (hR.im.1 k (by omega) (by omega)).resolve_left (fun z => by omega)
      have hpq := him.2.2.1.1
      have hpk := him.2.1
      have hpn := him.2.2.1.2.1
      have hpv2 := (hR.vim k (by omega) (by omega)).resolve_left (fun z => by omega)
      have hpv0 := hpv2.2.2.2.1
      have hpv1 := hpv2.2.2.2.2.1
      refine zT.aload_n 0 dX1_restore_20 rfl rfl ?_
      refine zT.aload_n 0 dX1_restore_21 rfl rfl ?_
      refine zT.getF dX1_restore_22 fX1_178 rfl (zPan.k hR.sh) (j := 39) (by decide) rfl (zPan.f39 hR.sh) ?_
      refine zT.iload_n 1 dX1_restore_25 rfl rfl ?_
      refine zT.aald dX1_restore_26 (by rw [(zPan.a39 hR.sh)]; decide) (by first | assumption | exact zq_i _ | exact zand_i _ _ | exact zor_i _ _ | exact zxor_i _ _ | exact zN _ | omega) (by rw [(zPan.n39 hR.sh)]; first | assumption | exact zq_i _ | exact zand_i _ _ | exact zor_i _ _ | exact zxor_i _ _ | exact zN _ | omega) ?_
      refine zT.putR dX1_restore_27 fX1_66 zs_7 rfl rfl (zPan.k hR.sh) (j := 7) (by decide) rfl ?_
      obtain ⟨m1, em1⟩ : ∃ z, z = zup m x 7 (m (x + 51) k) := ⟨_, rfl⟩
      rw [← em1]
      refine zT.aload_n 0 dX1_restore_30 rfl rfl ?_
      refine zT.getF dX1_restore_31 fX1_73 rfl (zPan.k hR.sh) (j := 8) (by decide) rfl (zPan.f8 hR.sh) ?_
      refine zT.aload_n 0 dX1_restore_34 rfl rfl ?_
      refine zT.getF dX1_restore_35 fX1_182 rfl (zPan.k hR.sh) (j := 40) (by decide) rfl (zPan.f40 hR.sh) ?_
      refine zT.iload_n 1 dX1_restore_38 rfl rfl ?_
      have hz9 : m1 (m (x + 52) k) 305 = A 4 (2301 * k + 58) := by
        rw [em1, zup_ne (by omega)]
        exact hpn
      refine zT.aald dX1_restore_39 (by rw [(zPan.a40 hR.sh)]; decide) (by first | assumption | exact zq_i _ | exact zand_i _ _ | exact zor_i _ _ | exact zxor_i _ _ | exact zN _ | omega) (by rw [(zPan.n40 hR.sh)]; first | assumption | exact zq_i _ | exact zand_i _ _ | exact zor_i _ _ | exact zxor_i _ _ | exact zN _ | omega) ?_
      have r39 : m1 (x + 52) k = m (x + 52) k := by rw [em1, zup_ne (by omega)]
      rw [r39]
      refine zT.callV (M' := mX4_be) (b := (x + 14)) [zR (m (x + 52) k)] [] dX1_restore_40 kX1_273 rfl rfl (ci := 3) (r := (RX4, TX4, 6)) rfl (zPlan.k (zPan.o8 hR.sh)) (C_X4_be (zPan.o8 hR.sh) hpq (by omega) (by omega) (by omega) (by omega)) (by decide) (k' := 0) (n' := 0) (by omega) (by omega) (by decide) (zdk (v := none) ?_) (fun _ _ _ _ h => h.elim)
      show zT G _ _ _ _ [] _ _ _ _ _ _
      obtain ⟨m2, em2⟩ : ∃ z, z = zbe m1 (x + 14) (m (x + 52) k) := ⟨_, rfl⟩
      rw [← em2]
      refine zT.aload_n 0 dX1_restore_43 rfl rfl ?_
      refine zT.aload_n 0 dX1_restore_44 rfl rfl ?_
      refine zT.getF dX1_restore_45 fX1_187 rfl (zPan.k hR.sh) (j := 41) (by decide) rfl (zPan.f41 hR.sh) ?_
      refine zT.iload_n 1 dX1_restore_48 rfl rfl ?_
      refine zT.aald dX1_restore_49 (by rw [(zPan.a41 hR.sh)]; decide) (by first | assumption | exact zq_i _ | exact zand_i _ _ | exact zor_i _ _ | exact zxor_i _ _ | exact zN _ | omega) (by rw [(zPan.n41 hR.sh)]; first | assumption | exact zq_i _ | exact zand_i _ _ | exact zor_i _ _ | exact zxor_i _ _ | exact zN _ | omega) ?_
      have r49 : m2 (x + 53) k = m (x + 53) k := by rw [em2, zbe_ne (by omega), em1, zup_ne (by omega)]
      rw [r49]
      refine zT.putR dX1_restore_50 fX1_218 zs_38 rfl rfl (zPan.k hR.sh) (j := 38) (by decide) rfl ?_
      obtain ⟨m3, em3⟩ : ∃ z, z = zup m2 x 38 (m (x + 53) k) := ⟨_, rfl⟩
      rw [← em3]
      refine zT.aload_n 0 dX1_restore_53 rfl rfl ?_
      refine zT.iconst dX1_restore_54 ?_
      refine zT.putI dX1_restore_55 fX1_215 zs_17 rfl (zPan.k hR.sh) (j := 17) (by decide) rfl (by first | assumption | exact zq_i _ | exact zand_i _ _ | exact zor_i _ _ | exact zxor_i _ _ | exact zN _ | omega) ?_
      obtain ⟨m4, em4⟩ : ∃ z, z = zup m3 x 17 0 := ⟨_, rfl⟩
      rw [← em4]
      refine zT.iconst dX1_restore_58 ?_
      refine zT.zret dX1_restore_59 rfl (by omega) ?_
      have h8 : (0 ≤ k ∧ k ≤ 1) ∧ A 9 k = 1 := ⟨by omega, h9⟩
      rw [if_pos h8, if_pos h8, em4, em3, em2, em1]
      have r := hL.rest hB (k := k) (by omega) (by rw [uLay_r (by omega) (by omega)]; exact h9)
      refine ⟨rfl, zGr.rf, r, fun a a0 a1 j => ?_⟩
      rw [zup_ne (by omega), zup_ne (by omega), zbe_ne (by omega), zup_ne (by omega)]
    · refine zT.iconst dX1_restore_18 ?_
      refine zT.zret dX1_restore_19 rfl (by omega) ?_
      have h8 : ¬ ((0 ≤ k ∧ k ≤ 1) ∧ A 9 k = 1) := by
        intro q
        first
          | omega
          | (rcases hR.im.1 k (by omega) (by omega) with z | z
             · omega
             · have := z.2.1
               omega)
      rw [if_neg h8, if_neg h8]
      exact ⟨rfl, zGr.rf, hL, zOut.rf⟩

