/-! PanSlicesModel: public methods that read (written by gen/m_mod4.py) -/
theorem C_X13_refuse {G : zG} {S : zS} {m : zMm} {b : Int} (hb : zMod S b) : zC G mX13_refuse 0 0 0 [zR b] S m (zDet (some (zI 0)) S (zup m b 1000 1)) zNX := by
  refine zC.of [zR b] (by decide) rfl (zEn1 (zcR _) (zEn0 (by simp))) rfl ?_
  refine zT.aload_n 0 dX13_refuse_0 rfl rfl ?_
  refine zT.iconst dX13_refuse_1 ?_
  refine zT.putI dX13_refuse_2 fX13_122 zs_1000 rfl (zMod.k hb) (j := 0) (by decide) rfl (by omega) ?_
  refine zT.iconst dX13_refuse_5 ?_
  refine zT.iret dX13_refuse_6 rfl ?_
  exact ⟨rfl, rfl, rfl⟩
theorem C_X13_slice {G : zG} {S : zS} {m : zMm} {b : Int} {A : zMm} (hb : zMod S b) (hA : yEq m b A) (hV : aVd A) {s c : Int} (hs : zi s) (hc : zi c) : zC G mX13_slice 2 0 0 [zR b, zI s, zI c] S m (zDet (some (zI (if (0 ≤ s ∧ s < (aK (A 0 1023) (A 2)) 5) ∧ 0 ≤ c ∧ c ≤ 2 then (aK (A 0 1023) (A 2)) (8 + 3 * s + c) else 0))) S (zup (ylaid m b) b 1000 (if (0 ≤ s ∧ s < (aK (A 0 1023) (A 2)) 5) ∧ 0 ≤ c ∧ c ≤ 2 then 0 else 1))) zNX := by
  have ym := hA.R hV
  have nm := ym.n
  have sm := ym.s
  have rm := ym.r
  have hk := hV.ki.1
  have hk0 := hk.1
  have hp0 := hV.pl.1
  have hp1 := hV.pl.2.1
  refine zC.of [zR b, zI s, zI c] (by decide) rfl (zEn1 (zcR _) (zEn1 (zcI _) (zEn1 (zcI _) (zEn0 (by simp))))) rfl ?_
  refine zT.rng hb.a1014 (fun zN => ?_)
  obtain ⟨Q9, eQ9⟩ : ∃ z : zQt, z = (zDet (some (zI (if (0 ≤ s ∧ s < (aK (A 0 1023) (A 2)) 5) ∧ 0 ≤ c ∧ c ≤ 2 then (aK (A 0 1023) (A 2)) (8 + 3 * s + c) else 0))) S (zup (ylaid m b) b 1000 (if (0 ≤ s ∧ s < (aK (A 0 1023) (A 2)) 5) ∧ 0 ≤ c ∧ c ≤ 2 then 0 else 1))) := ⟨_, rfl⟩
  rw [← eQ9]
  refine zT.aload_n 0 dX13_slice_0 rfl rfl ?_
  refine zT.callV (M' := mX13_lay) (b := b) [] [] dX13_slice_1 kX13_202 rfl rfl (ci := 10) (r := (RX13, TX13, 62)) rfl (zMod.k hb) (C_X13_lay hb) (by decide) (k' := 0) (n' := 0) (by omega) (by omega) (by decide) (zdk (v := none) ?_) (fun _ _ _ _ h => h.elim)
  show zT G _ _ _ _ [] _ _ _ _ _ _
  obtain ⟨m1, em1⟩ : ∃ z, z = ylaid m b := ⟨_, rfl⟩
  rw [← em1]
  have ym1 : yL m1 b A := by rw [em1]; exact hA.L2 hV (fun j => by rfl) (by rfl)
  have nm1 := ym1.1.n
  have sm1 := ym1.1.s
  have rm1 := ym1.1.r
  refine zT.aload_n 0 dX13_slice_4 rfl rfl ?_
  refine zT.iload_n 1 dX13_slice_5 rfl rfl ?_
  refine zT.callV (M' := mX13_isSlice) (b := b) [zI s] [] dX13_slice_6 kX13_274 rfl rfl (ci := 10) (r := (RX13, TX13, 62)) rfl (zMod.k hb) (C_X13_isSlice hb (by first | assumption | exact zq_i _ | exact zand_i _ _ | exact zor_i _ _ | exact zN _ | omega)) (by decide) (k' := 0) (n' := 0) (by omega) (by omega) (by decide) (zdk (v := some (zI (zq (0 ≤ s ∧ s < m1 (b + 2) (5))))) ?_) (fun _ _ _ _ h => h.elim)
  show zT G _ _ _ _ [zI (zq (0 ≤ s ∧ s < m1 (b + 2) (5)))] _ _ _ _ _ _
  refine zT.if_eqB (tgt := 21) dX13_slice_9 (by decide) (fun c9 => ?_) (fun c9 => ?_)
  · refine zT.aload_n 0 dX13_slice_21 rfl rfl ?_
    refine zT.callV (M' := mX13_refuse) (b := b) [] [] dX13_slice_22 kX13_277 rfl rfl (ci := 10) (r := (RX13, TX13, 62)) rfl (zMod.k hb) (C_X13_refuse hb) (by decide) (k' := 0) (n' := 0) (by omega) (by omega) (by decide) (zdk (v := some (zI 0)) ?_) (fun _ _ _ _ h => h.elim)
    show zT G _ _ _ _ [zI 0] _ _ _ _ _ _
    obtain ⟨m2, em2⟩ : ∃ z, z = zup m1 b 1000 1 := ⟨_, rfl⟩
    rw [← em2]
    have ym2 : yL m2 b A := by rw [em2]; exact ym1.up (by omega)
    have nm2 := ym2.1.n
    have sm2 := ym2.1.s
    have rm2 := ym2.1.r
    refine zT.iret dX13_slice_25 rfl ?_
    rw [eQ9]
    refine ⟨?_, rfl, ?_⟩
    · first
        | (rw [if_neg (by omega)])
        | (rw [if_pos (by omega)]; rw [ym1.2 (8 + 3 * s + c) (by omega) (by omega)])
    · first
        | (rw [if_neg (by omega), em2, em1]; done)
        | (rw [if_pos (by omega), em2, em1]; done)
  · refine zT.iload_n 2 dX13_slice_12 rfl rfl ?_
    refine zT.iconst dX13_slice_13 ?_
    refine zT.iconst dX13_slice_14 ?_
    refine zT.callS (M' := mX13_isIn) [zI c, zI 0, zI 2] [] dX13_slice_15 kX13_189 rfl rfl (C_X13_isIn (by first | assumption | exact zq_i _ | exact zand_i _ _ | exact zor_i _ _ | exact zN _ | omega) (by first | assumption | exact zq_i _ | exact zand_i _ _ | exact zor_i _ _ | exact zN _ | omega) (by first | assumption | exact zq_i _ | exact zand_i _ _ | exact zor_i _ _ | exact zN _ | omega)) (by decide) (k' := 0) (n' := 0) (by omega) (by omega) (by decide) (zdk (v := some (zI (zq (0 ≤ c ∧ c ≤ 2)))) ?_) (fun _ _ _ _ h => h.elim)
    show zT G _ _ _ _ [zI (zq (0 ≤ c ∧ c ≤ 2))] _ _ _ _ _ _
    refine zT.if_neB (tgt := 26) dX13_slice_18 (by decide) (fun c18 => ?_) (fun c18 => ?_)
    · refine zT.aload_n 0 dX13_slice_26 rfl rfl ?_
      refine zT.iconst dX13_slice_27 ?_
      refine zT.putI dX13_slice_28 fX13_122 zs_1000 rfl (zMod.k hb) (j := 0) (by decide) rfl (by first | assumption | exact zq_i _ | exact zand_i _ _ | exact zor_i _ _ | exact zN _ | omega) ?_
      obtain ⟨m3, em3⟩ : ∃ z, z = zup m1 b 1000 0 := ⟨_, rfl⟩
      rw [← em3]
      have ym3 : yL m3 b A := by rw [em3]; exact ym1.up (by omega)
      have nm3 := ym3.1.n
      have sm3 := ym3.1.s
      have rm3 := ym3.1.r
      refine zT.aload_n 0 dX13_slice_31 rfl rfl ?_
      refine zT.getF dX13_slice_32 fX13_13 rfl (zMod.k hb) (j := 14) (by decide) rfl (zMod.f1014 hb) ?_
      refine zT.bipush dX13_slice_35 ?_
      refine zT.iconst dX13_slice_37 ?_
      refine zT.iload_n 1 dX13_slice_38 rfl rfl ?_
      refine zT.imul dX13_slice_39 ?_
      refine zT.iadd dX13_slice_40 ?_
      refine zT.iload_n 2 dX13_slice_41 rfl rfl ?_
      refine zT.iadd dX13_slice_42 ?_
      refine zT.iald dX13_slice_43 (zMod.a1014 hb) (by first | assumption | exact zq_i _ | exact zand_i _ _ | exact zor_i _ _ | exact zN _ | omega) (by rw [(zMod.n1014 hb)]; first | assumption | exact zq_i _ | exact zand_i _ _ | exact zor_i _ _ | exact zN _ | omega) (fun z43 => ?_)
      have r43 : m3 (b + 2) ((8 + (3 * s)) + c) = m1 (b + 2) ((8 + (3 * s)) + c) := by rw [em3, zup_ne (by omega)]
      rw [r43] at z43 ⊢
      refine zT.iret dX13_slice_44 rfl ?_
      rw [eQ9]
      refine ⟨?_, rfl, ?_⟩
      · first
          | (rw [if_neg (by omega)])
          | (rw [if_pos (by omega)]; rw [ym1.2 (8 + 3 * s + c) (by omega) (by omega)])
      · first
          | (rw [if_neg (by omega), em3, em1]; done)
          | (rw [if_pos (by omega), em3, em1]; done)
    · refine zT.aload_n 0 dX13_slice_21 rfl rfl ?_
      refine zT.callV (M' := mX13_refuse) (b := b) [] [] dX13_slice_22 kX13_277 rfl rfl (ci := 10) (r := (RX13, TX13, 62)) rfl (zMod.k hb) (C_X13_refuse hb) (by decide) (k' := 0) (n' := 0) (by omega) (by omega) (by decide) (zdk (v := some (zI 0)) ?_) (fun _ _ _ _ h => h.elim)
      show zT G _ _ _ _ [zI 0] _ _ _ _ _ _
      obtain ⟨m4, em4⟩ : ∃ z, z = zup m1 b 1000 1 := ⟨_, rfl⟩
      rw [← em4]
      have ym4 : yL m4 b A := by rw [em4]; exact ym1.up (by omega)
      have nm4 := ym4.1.n
      have sm4 := ym4.1.s
      have rm4 := ym4.1.r
      refine zT.iret dX13_slice_25 rfl ?_
      rw [eQ9]
      refine ⟨?_, rfl, ?_⟩
      · first
          | (rw [if_neg (by omega)])
          | (rw [if_pos (by omega)]; rw [ym1.2 (8 + 3 * s + c) (by omega) (by omega)])
      · first
          | (rw [if_neg (by omega), em4, em1]; done)
          | (rw [if_pos (by omega), em4, em1]; done)

theorem C_X13_guest {G : zG} {S : zS} {m : zMm} {b : Int} {A : zMm} (hb : zMod S b) (hA : yEq m b A) (hV : aVd A) {s c : Int} (hs : zi s) (hc : zi c) : zC G mX13_guest 2 0 0 [zR b, zI s, zI c] S m (zDet (some (zI (if (0 ≤ s ∧ s < (aK (A 0 1023) (A 2)) 6) ∧ 0 ≤ c ∧ c ≤ 1 then (aK (A 0 1023) (A 2)) (32 + 2 * s + c) else 0))) S (zup (ylaid m b) b 1000 (if (0 ≤ s ∧ s < (aK (A 0 1023) (A 2)) 6) ∧ 0 ≤ c ∧ c ≤ 1 then 0 else 1))) zNX := by
  have ym := hA.R hV
  have nm := ym.n
  have sm := ym.s
  have rm := ym.r
  have hk := hV.ki.1
  have hk0 := hk.1
  have hp0 := hV.pl.1
  have hp1 := hV.pl.2.1
  refine zC.of [zR b, zI s, zI c] (by decide) rfl (zEn1 (zcR _) (zEn1 (zcI _) (zEn1 (zcI _) (zEn0 (by simp))))) rfl ?_
  refine zT.rng hb.a1014 (fun zN => ?_)
  obtain ⟨Q9, eQ9⟩ : ∃ z : zQt, z = (zDet (some (zI (if (0 ≤ s ∧ s < (aK (A 0 1023) (A 2)) 6) ∧ 0 ≤ c ∧ c ≤ 1 then (aK (A 0 1023) (A 2)) (32 + 2 * s + c) else 0))) S (zup (ylaid m b) b 1000 (if (0 ≤ s ∧ s < (aK (A 0 1023) (A 2)) 6) ∧ 0 ≤ c ∧ c ≤ 1 then 0 else 1))) := ⟨_, rfl⟩
  rw [← eQ9]
  refine zT.aload_n 0 dX13_guest_0 rfl rfl ?_
  refine zT.callV (M' := mX13_lay) (b := b) [] [] dX13_guest_1 kX13_202 rfl rfl (ci := 10) (r := (RX13, TX13, 62)) rfl (zMod.k hb) (C_X13_lay hb) (by decide) (k' := 0) (n' := 0) (by omega) (by omega) (by decide) (zdk (v := none) ?_) (fun _ _ _ _ h => h.elim)
  show zT G _ _ _ _ [] _ _ _ _ _ _
  obtain ⟨m1, em1⟩ : ∃ z, z = ylaid m b := ⟨_, rfl⟩
  rw [← em1]
  have ym1 : yL m1 b A := by rw [em1]; exact hA.L2 hV (fun j => by rfl) (by rfl)
  have nm1 := ym1.1.n
  have sm1 := ym1.1.s
  have rm1 := ym1.1.r
  have g6 := ym1.1.k 6 (by omega) (by omega)
  refine zT.iload_n 1 dX13_guest_4 rfl rfl ?_
  refine zT.if_lt (tgt := 28) dX13_guest_5 (by decide) (by first | assumption | exact zq_i _ | exact zand_i _ _ | exact zor_i _ _ | exact zN _ | omega) (fun c5 => ?_) (fun c5 => ?_)
  · refine zT.aload_n 0 dX13_guest_28 rfl rfl ?_
    refine zT.callV (M' := mX13_refuse) (b := b) [] [] dX13_guest_29 kX13_277 rfl rfl (ci := 10) (r := (RX13, TX13, 62)) rfl (zMod.k hb) (C_X13_refuse hb) (by decide) (k' := 0) (n' := 0) (by omega) (by omega) (by decide) (zdk (v := some (zI 0)) ?_) (fun _ _ _ _ h => h.elim)
    show zT G _ _ _ _ [zI 0] _ _ _ _ _ _
    obtain ⟨m2, em2⟩ : ∃ z, z = zup m1 b 1000 1 := ⟨_, rfl⟩
    rw [← em2]
    have ym2 : yL m2 b A := by rw [em2]; exact ym1.up (by omega)
    have nm2 := ym2.1.n
    have sm2 := ym2.1.s
    have rm2 := ym2.1.r
    refine zT.iret dX13_guest_32 rfl ?_
    rw [eQ9]
    refine ⟨?_, rfl, ?_⟩
    · first
        | (rw [if_neg (by omega)])
        | (rw [if_pos (by omega)]; rw [ym1.2 (32 + 2 * s + c) (by omega) (by omega)])
    · first
        | (rw [if_neg (by omega), em2, em1]; done)
        | (rw [if_pos (by omega), em2, em1]; done)
  · refine zT.iload_n 1 dX13_guest_8 rfl rfl ?_
    refine zT.aload_n 0 dX13_guest_9 rfl rfl ?_
    refine zT.getF dX13_guest_10 fX13_13 rfl (zMod.k hb) (j := 14) (by decide) rfl (zMod.f1014 hb) ?_
    refine zT.bipush dX13_guest_13 ?_
    refine zT.iald dX13_guest_15 (zMod.a1014 hb) (by first | assumption | exact zq_i _ | exact zand_i _ _ | exact zor_i _ _ | exact zN _ | omega) (by rw [(zMod.n1014 hb)]; first | assumption | exact zq_i _ | exact zand_i _ _ | exact zor_i _ _ | exact zN _ | omega) (fun z15 => ?_)
    refine zT.ic_ge (tgt := 28) dX13_guest_16 (by decide) (by first | assumption | exact zq_i _ | exact zand_i _ _ | exact zor_i _ _ | exact zN _ | omega) (by first | assumption | exact zq_i _ | exact zand_i _ _ | exact zor_i _ _ | exact zN _ | omega) (fun c16 => ?_) (fun c16 => ?_)
    · refine zT.aload_n 0 dX13_guest_28 rfl rfl ?_
      refine zT.callV (M' := mX13_refuse) (b := b) [] [] dX13_guest_29 kX13_277 rfl rfl (ci := 10) (r := (RX13, TX13, 62)) rfl (zMod.k hb) (C_X13_refuse hb) (by decide) (k' := 0) (n' := 0) (by omega) (by omega) (by decide) (zdk (v := some (zI 0)) ?_) (fun _ _ _ _ h => h.elim)
      show zT G _ _ _ _ [zI 0] _ _ _ _ _ _
      obtain ⟨m3, em3⟩ : ∃ z, z = zup m1 b 1000 1 := ⟨_, rfl⟩
      rw [← em3]
      have ym3 : yL m3 b A := by rw [em3]; exact ym1.up (by omega)
      have nm3 := ym3.1.n
      have sm3 := ym3.1.s
      have rm3 := ym3.1.r
      refine zT.iret dX13_guest_32 rfl ?_
      rw [eQ9]
      refine ⟨?_, rfl, ?_⟩
      · first
          | (rw [if_neg (by omega)])
          | (rw [if_pos (by omega)]; rw [ym1.2 (32 + 2 * s + c) (by omega) (by omega)])
      · first
          | (rw [if_neg (by omega), em3, em1]; done)
          | (rw [if_pos (by omega), em3, em1]; done)
    · refine zT.iload_n 2 dX13_guest_19 rfl rfl ?_
      refine zT.iconst dX13_guest_20 ?_
      refine zT.iconst dX13_guest_21 ?_
      refine zT.callS (M' := mX13_isIn) [zI c, zI 0, zI 1] [] dX13_guest_22 kX13_189 rfl rfl (C_X13_isIn (by first | assumption | exact zq_i _ | exact zand_i _ _ | exact zor_i _ _ | exact zN _ | omega) (by first | assumption | exact zq_i _ | exact zand_i _ _ | exact zor_i _ _ | exact zN _ | omega) (by first | assumption | exact zq_i _ | exact zand_i _ _ | exact zor_i _ _ | exact zN _ | omega)) (by decide) (k' := 0) (n' := 0) (by omega) (by omega) (by decide) (zdk (v := some (zI (zq (0 ≤ c ∧ c ≤ 1)))) ?_) (fun _ _ _ _ h => h.elim)
      show zT G _ _ _ _ [zI (zq (0 ≤ c ∧ c ≤ 1))] _ _ _ _ _ _
      refine zT.if_neB (tgt := 33) dX13_guest_25 (by decide) (fun c25 => ?_) (fun c25 => ?_)
      · refine zT.aload_n 0 dX13_guest_33 rfl rfl ?_
        refine zT.iconst dX13_guest_34 ?_
        refine zT.putI dX13_guest_35 fX13_122 zs_1000 rfl (zMod.k hb) (j := 0) (by decide) rfl (by first | assumption | exact zq_i _ | exact zand_i _ _ | exact zor_i _ _ | exact zN _ | omega) ?_
        obtain ⟨m4, em4⟩ : ∃ z, z = zup m1 b 1000 0 := ⟨_, rfl⟩
        rw [← em4]
        have ym4 : yL m4 b A := by rw [em4]; exact ym1.up (by omega)
        have nm4 := ym4.1.n
        have sm4 := ym4.1.s
        have rm4 := ym4.1.r
        refine zT.aload_n 0 dX13_guest_38 rfl rfl ?_
        refine zT.getF dX13_guest_39 fX13_13 rfl (zMod.k hb) (j := 14) (by decide) rfl (zMod.f1014 hb) ?_
        refine zT.bipush dX13_guest_42 ?_
        refine zT.iconst dX13_guest_44 ?_
        refine zT.iload_n 1 dX13_guest_45 rfl rfl ?_
        refine zT.imul dX13_guest_46 ?_
        refine zT.iadd dX13_guest_47 ?_
        refine zT.iload_n 2 dX13_guest_48 rfl rfl ?_
        refine zT.iadd dX13_guest_49 ?_
        refine zT.iald dX13_guest_50 (zMod.a1014 hb) (by first | assumption | exact zq_i _ | exact zand_i _ _ | exact zor_i _ _ | exact zN _ | omega) (by rw [(zMod.n1014 hb)]; first | assumption | exact zq_i _ | exact zand_i _ _ | exact zor_i _ _ | exact zN _ | omega) (fun z50 => ?_)
        have r50 : m4 (b + 2) ((32 + (2 * s)) + c) = m1 (b + 2) ((32 + (2 * s)) + c) := by rw [em4, zup_ne (by omega)]
        rw [r50] at z50 ⊢
        refine zT.iret dX13_guest_51 rfl ?_
        rw [eQ9]
        refine ⟨?_, rfl, ?_⟩
        · first
            | (rw [if_neg (by omega)])
            | (rw [if_pos (by omega)]; rw [ym1.2 (32 + 2 * s + c) (by omega) (by omega)])
        · first
            | (rw [if_neg (by omega), em4, em1]; done)
            | (rw [if_pos (by omega), em4, em1]; done)
      · refine zT.aload_n 0 dX13_guest_28 rfl rfl ?_
        refine zT.callV (M' := mX13_refuse) (b := b) [] [] dX13_guest_29 kX13_277 rfl rfl (ci := 10) (r := (RX13, TX13, 62)) rfl (zMod.k hb) (C_X13_refuse hb) (by decide) (k' := 0) (n' := 0) (by omega) (by omega) (by decide) (zdk (v := some (zI 0)) ?_) (fun _ _ _ _ h => h.elim)
        show zT G _ _ _ _ [zI 0] _ _ _ _ _ _
        obtain ⟨m5, em5⟩ : ∃ z, z = zup m1 b 1000 1 := ⟨_, rfl⟩
        rw [← em5]
        have ym5 : yL m5 b A := by rw [em5]; exact ym1.up (by omega)
        have nm5 := ym5.1.n
        have sm5 := ym5.1.s
        have rm5 := ym5.1.r
        refine zT.iret dX13_guest_32 rfl ?_
        rw [eQ9]
        refine ⟨?_, rfl, ?_⟩
        · first
            | (rw [if_neg (by omega)])
            | (rw [if_pos (by omega)]; rw [ym1.2 (32 + 2 * s + c) (by omega) (by omega)])
        · first
            | (rw [if_neg (by omega), em5, em1]; done)
            | (rw [if_pos (by omega), em5, em1]; done)

theorem C_X13_sort {G : zG} {S : zS} {m : zMm} {b : Int} {A : zMm} (hb : zMod S b) (hA : yEq m b A) (hV : aVd A) {s c : Int} (hs : zi s) (hc : zi c) : zC G mX13_sort 2 0 0 [zR b, zI s, zI c] S m (zDet (some (zI (if (0 ≤ s ∧ s < (aK (A 0 1023) (A 2)) 7) ∧ 0 ≤ c ∧ c ≤ 1 then (aK (A 0 1023) (A 2)) (48 + 2 * s + c) else 0))) S (zup (ylaid m b) b 1000 (if (0 ≤ s ∧ s < (aK (A 0 1023) (A 2)) 7) ∧ 0 ≤ c ∧ c ≤ 1 then 0 else 1))) zNX := by
  have ym := hA.R hV
  have nm := ym.n
  have sm := ym.s
  have rm := ym.r
  have hk := hV.ki.1
  have hk0 := hk.1
  have hp0 := hV.pl.1
  have hp1 := hV.pl.2.1
  refine zC.of [zR b, zI s, zI c] (by decide) rfl (zEn1 (zcR _) (zEn1 (zcI _) (zEn1 (zcI _) (zEn0 (by simp))))) rfl ?_
  refine zT.rng hb.a1014 (fun zN => ?_)
  obtain ⟨Q9, eQ9⟩ : ∃ z : zQt, z = (zDet (some (zI (if (0 ≤ s ∧ s < (aK (A 0 1023) (A 2)) 7) ∧ 0 ≤ c ∧ c ≤ 1 then (aK (A 0 1023) (A 2)) (48 + 2 * s + c) else 0))) S (zup (ylaid m b) b 1000 (if (0 ≤ s ∧ s < (aK (A 0 1023) (A 2)) 7) ∧ 0 ≤ c ∧ c ≤ 1 then 0 else 1))) := ⟨_, rfl⟩
  rw [← eQ9]
  refine zT.aload_n 0 dX13_sort_0 rfl rfl ?_
  refine zT.callV (M' := mX13_lay) (b := b) [] [] dX13_sort_1 kX13_202 rfl rfl (ci := 10) (r := (RX13, TX13, 62)) rfl (zMod.k hb) (C_X13_lay hb) (by decide) (k' := 0) (n' := 0) (by omega) (by omega) (by decide) (zdk (v := none) ?_) (fun _ _ _ _ h => h.elim)
  show zT G _ _ _ _ [] _ _ _ _ _ _
  obtain ⟨m1, em1⟩ : ∃ z, z = ylaid m b := ⟨_, rfl⟩
  rw [← em1]
  have ym1 : yL m1 b A := by rw [em1]; exact hA.L2 hV (fun j => by rfl) (by rfl)
  have nm1 := ym1.1.n
  have sm1 := ym1.1.s
  have rm1 := ym1.1.r
  have g6 := ym1.1.k 7 (by omega) (by omega)
  refine zT.iload_n 1 dX13_sort_4 rfl rfl ?_
  refine zT.if_lt (tgt := 28) dX13_sort_5 (by decide) (by first | assumption | exact zq_i _ | exact zand_i _ _ | exact zor_i _ _ | exact zN _ | omega) (fun c5 => ?_) (fun c5 => ?_)
  · refine zT.aload_n 0 dX13_sort_28 rfl rfl ?_
    refine zT.callV (M' := mX13_refuse) (b := b) [] [] dX13_sort_29 kX13_277 rfl rfl (ci := 10) (r := (RX13, TX13, 62)) rfl (zMod.k hb) (C_X13_refuse hb) (by decide) (k' := 0) (n' := 0) (by omega) (by omega) (by decide) (zdk (v := some (zI 0)) ?_) (fun _ _ _ _ h => h.elim)
    show zT G _ _ _ _ [zI 0] _ _ _ _ _ _
    obtain ⟨m2, em2⟩ : ∃ z, z = zup m1 b 1000 1 := ⟨_, rfl⟩
    rw [← em2]
    have ym2 : yL m2 b A := by rw [em2]; exact ym1.up (by omega)
    have nm2 := ym2.1.n
    have sm2 := ym2.1.s
    have rm2 := ym2.1.r
    refine zT.iret dX13_sort_32 rfl ?_
    rw [eQ9]
    refine ⟨?_, rfl, ?_⟩
    · first
        | (rw [if_neg (by omega)])
        | (rw [if_pos (by omega)]; rw [ym1.2 (48 + 2 * s + c) (by omega) (by omega)])
    · first
        | (rw [if_neg (by omega), em2, em1]; done)
        | (rw [if_pos (by omega), em2, em1]; done)
  · refine zT.iload_n 1 dX13_sort_8 rfl rfl ?_
    refine zT.aload_n 0 dX13_sort_9 rfl rfl ?_
    refine zT.getF dX13_sort_10 fX13_13 rfl (zMod.k hb) (j := 14) (by decide) rfl (zMod.f1014 hb) ?_
    refine zT.bipush dX13_sort_13 ?_
    refine zT.iald dX13_sort_15 (zMod.a1014 hb) (by first | assumption | exact zq_i _ | exact zand_i _ _ | exact zor_i _ _ | exact zN _ | omega) (by rw [(zMod.n1014 hb)]; first | assumption | exact zq_i _ | exact zand_i _ _ | exact zor_i _ _ | exact zN _ | omega) (fun z15 => ?_)
    refine zT.ic_ge (tgt := 28) dX13_sort_16 (by decide) (by first | assumption | exact zq_i _ | exact zand_i _ _ | exact zor_i _ _ | exact zN _ | omega) (by first | assumption | exact zq_i _ | exact zand_i _ _ | exact zor_i _ _ | exact zN _ | omega) (fun c16 => ?_) (fun c16 => ?_)
    · refine zT.aload_n 0 dX13_sort_28 rfl rfl ?_
      refine zT.callV (M' := mX13_refuse) (b := b) [] [] dX13_sort_29 kX13_277 rfl rfl (ci := 10) (r := (RX13, TX13, 62)) rfl (zMod.k hb) (C_X13_refuse hb) (by decide) (k' := 0) (n' := 0) (by omega) (by omega) (by decide) (zdk (v := some (zI 0)) ?_) (fun _ _ _ _ h => h.elim)
      show zT G _ _ _ _ [zI 0] _ _ _ _ _ _
      obtain ⟨m3, em3⟩ : ∃ z, z = zup m1 b 1000 1 := ⟨_, rfl⟩
      rw [← em3]
      have ym3 : yL m3 b A := by rw [em3]; exact ym1.up (by omega)
      have nm3 := ym3.1.n
      have sm3 := ym3.1.s
      have rm3 := ym3.1.r
      refine zT.iret dX13_sort_32 rfl ?_
      rw [eQ9]
      refine ⟨?_, rfl, ?_⟩
      · first
          | (rw [if_neg (by omega)])
          | (rw [if_pos (by omega)]; rw [ym1.2 (48 + 2 * s + c) (by omega) (by omega)])
      · first
          | (rw [if_neg (by omega), em3, em1]; done)
          | (rw [if_pos (by omega), em3, em1]; done)
    · refine zT.iload_n 2 dX13_sort_19 rfl rfl ?_
      refine zT.iconst dX13_sort_20 ?_
      refine zT.iconst dX13_sort_21 ?_
      refine zT.callS (M' := mX13_isIn) [zI c, zI 0, zI 1] [] dX13_sort_22 kX13_189 rfl rfl (C_X13_isIn (by first | assumption | exact zq_i _ | exact zand_i _ _ | exact zor_i _ _ | exact zN _ | omega) (by first | assumption | exact zq_i _ | exact zand_i _ _ | exact zor_i _ _ | exact zN _ | omega) (by first | assumption | exact zq_i _ | exact zand_i _ _ | exact zor_i _ _ | exact zN _ | omega)) (by decide) (k' := 0) (n' := 0) (by omega) (by omega) (by decide) (zdk (v := some (zI (zq (0 ≤ c ∧ c ≤ 1)))) ?_) (fun _ _ _ _ h => h.elim)
      show zT G _ _ _ _ [zI (zq (0 ≤ c ∧ c ≤ 1))] _ _ _ _ _ _
      refine zT.if_neB (tgt := 33) dX13_sort_25 (by decide) (fun c25 => ?_) (fun c25 => ?_)
      · refine zT.aload_n 0 dX13_sort_33 rfl rfl ?_
        refine zT.iconst dX13_sort_34 ?_
        refine zT.putI dX13_sort_35 fX13_122 zs_1000 rfl (zMod.k hb) (j := 0) (by decide) rfl (by first | assumption | exact zq_i _ | exact zand_i _ _ | exact zor_i _ _ | exact zN _ | omega) ?_
        obtain ⟨m4, em4⟩ : ∃ z, z = zup m1 b 1000 0 := ⟨_, rfl⟩
        rw [← em4]
        have ym4 : yL m4 b A := by rw [em4]; exact ym1.up (by omega)
        have nm4 := ym4.1.n
        have sm4 := ym4.1.s
        have rm4 := ym4.1.r
        refine zT.aload_n 0 dX13_sort_38 rfl rfl ?_
        refine zT.getF dX13_sort_39 fX13_13 rfl (zMod.k hb) (j := 14) (by decide) rfl (zMod.f1014 hb) ?_
        refine zT.bipush dX13_sort_42 ?_
        refine zT.iconst dX13_sort_44 ?_
        refine zT.iload_n 1 dX13_sort_45 rfl rfl ?_
        refine zT.imul dX13_sort_46 ?_
        refine zT.iadd dX13_sort_47 ?_
        refine zT.iload_n 2 dX13_sort_48 rfl rfl ?_
        refine zT.iadd dX13_sort_49 ?_
        refine zT.iald dX13_sort_50 (zMod.a1014 hb) (by first | assumption | exact zq_i _ | exact zand_i _ _ | exact zor_i _ _ | exact zN _ | omega) (by rw [(zMod.n1014 hb)]; first | assumption | exact zq_i _ | exact zand_i _ _ | exact zor_i _ _ | exact zN _ | omega) (fun z50 => ?_)
        have r50 : m4 (b + 2) ((48 + (2 * s)) + c) = m1 (b + 2) ((48 + (2 * s)) + c) := by rw [em4, zup_ne (by omega)]
        rw [r50] at z50 ⊢
        refine zT.iret dX13_sort_51 rfl ?_
        rw [eQ9]
        refine ⟨?_, rfl, ?_⟩
        · first
            | (rw [if_neg (by omega)])
            | (rw [if_pos (by omega)]; rw [ym1.2 (48 + 2 * s + c) (by omega) (by omega)])
        · first
            | (rw [if_neg (by omega), em4, em1]; done)
            | (rw [if_pos (by omega), em4, em1]; done)
      · refine zT.aload_n 0 dX13_sort_28 rfl rfl ?_
        refine zT.callV (M' := mX13_refuse) (b := b) [] [] dX13_sort_29 kX13_277 rfl rfl (ci := 10) (r := (RX13, TX13, 62)) rfl (zMod.k hb) (C_X13_refuse hb) (by decide) (k' := 0) (n' := 0) (by omega) (by omega) (by decide) (zdk (v := some (zI 0)) ?_) (fun _ _ _ _ h => h.elim)
        show zT G _ _ _ _ [zI 0] _ _ _ _ _ _
        obtain ⟨m5, em5⟩ : ∃ z, z = zup m1 b 1000 1 := ⟨_, rfl⟩
        rw [← em5]
        have ym5 : yL m5 b A := by rw [em5]; exact ym1.up (by omega)
        have nm5 := ym5.1.n
        have sm5 := ym5.1.s
        have rm5 := ym5.1.r
        refine zT.iret dX13_sort_32 rfl ?_
        rw [eQ9]
        refine ⟨?_, rfl, ?_⟩
        · first
            | (rw [if_neg (by omega)])
            | (rw [if_pos (by omega)]; rw [ym1.2 (48 + 2 * s + c) (by omega) (by omega)])
        · first
            | (rw [if_neg (by omega), em5, em1]; done)
            | (rw [if_pos (by omega), em5, em1]; done)

theorem C_X13_left {G : zG} {S : zS} {m : zMm} {b : Int} {A : zMm} (hb : zMod S b) (hA : yEq m b A) (hV : aVd A) {s c : Int} (hs : zi s) (hc : zi c) : zC G mX13_left 2 0 0 [zR b, zI s, zI c] S m (zDet (some (zI (if (0 ≤ s ∧ s < (aK (A 0 1023) (A 2)) 5) ∧ 0 ≤ c ∧ c ≤ 1 then (aK (A 0 1023) (A 2)) (8 + 3 * s + c) - ahad (aGo (A 2) 58) s c (A 2 58) else 0))) S (zup (ylaid m b) b 1000 (if (0 ≤ s ∧ s < (aK (A 0 1023) (A 2)) 5) ∧ 0 ≤ c ∧ c ≤ 1 then 0 else 1))) zNX := by
  have ym := hA.R hV
  have nm := ym.n
  have sm := ym.s
  have rm := ym.r
  have hk := hV.ki.1
  have hk0 := hk.1
  have hp0 := hV.pl.1
  have hp1 := hV.pl.2.1
  refine zC.of [zR b, zI s, zI c] (by decide) rfl (zEn1 (zcR _) (zEn1 (zcI _) (zEn1 (zcI _) (zEn0 (by simp))))) rfl ?_
  refine zT.rng hb.a1014 (fun zN => ?_)
  obtain ⟨Q9, eQ9⟩ : ∃ z : zQt, z = (zDet (some (zI (if (0 ≤ s ∧ s < (aK (A 0 1023) (A 2)) 5) ∧ 0 ≤ c ∧ c ≤ 1 then (aK (A 0 1023) (A 2)) (8 + 3 * s + c) - ahad (aGo (A 2) 58) s c (A 2 58) else 0))) S (zup (ylaid m b) b 1000 (if (0 ≤ s ∧ s < (aK (A 0 1023) (A 2)) 5) ∧ 0 ≤ c ∧ c ≤ 1 then 0 else 1))) := ⟨_, rfl⟩
  rw [← eQ9]
  refine zT.aload_n 0 dX13_left_0 rfl rfl ?_
  refine zT.callV (M' := mX13_lay) (b := b) [] [] dX13_left_1 kX13_202 rfl rfl (ci := 10) (r := (RX13, TX13, 62)) rfl (zMod.k hb) (C_X13_lay hb) (by decide) (k' := 0) (n' := 0) (by omega) (by omega) (by decide) (zdk (v := none) ?_) (fun _ _ _ _ h => h.elim)
  show zT G _ _ _ _ [] _ _ _ _ _ _
  obtain ⟨m1, em1⟩ : ∃ z, z = ylaid m b := ⟨_, rfl⟩
  rw [← em1]
  have ym1 : yL m1 b A := by rw [em1]; exact hA.L2 hV (fun j => by rfl) (by rfl)
  have nm1 := ym1.1.n
  have sm1 := ym1.1.s
  have rm1 := ym1.1.r
  refine zT.aload_n 0 dX13_left_4 rfl rfl ?_
  refine zT.iload_n 1 dX13_left_5 rfl rfl ?_
  refine zT.callV (M' := mX13_isSlice) (b := b) [zI s] [] dX13_left_6 kX13_274 rfl rfl (ci := 10) (r := (RX13, TX13, 62)) rfl (zMod.k hb) (C_X13_isSlice hb (by first | assumption | exact zq_i _ | exact zand_i _ _ | exact zor_i _ _ | exact zN _ | omega)) (by decide) (k' := 0) (n' := 0) (by omega) (by omega) (by decide) (zdk (v := some (zI (zq (0 ≤ s ∧ s < m1 (b + 2) (5))))) ?_) (fun _ _ _ _ h => h.elim)
  show zT G _ _ _ _ [zI (zq (0 ≤ s ∧ s < m1 (b + 2) (5)))] _ _ _ _ _ _
  refine zT.if_eqB (tgt := 21) dX13_left_9 (by decide) (fun c9 => ?_) (fun c9 => ?_)
  · refine zT.aload_n 0 dX13_left_21 rfl rfl ?_
    refine zT.callV (M' := mX13_refuse) (b := b) [] [] dX13_left_22 kX13_277 rfl rfl (ci := 10) (r := (RX13, TX13, 62)) rfl (zMod.k hb) (C_X13_refuse hb) (by decide) (k' := 0) (n' := 0) (by omega) (by omega) (by decide) (zdk (v := some (zI 0)) ?_) (fun _ _ _ _ h => h.elim)
    show zT G _ _ _ _ [zI 0] _ _ _ _ _ _
    obtain ⟨m2, em2⟩ : ∃ z, z = zup m1 b 1000 1 := ⟨_, rfl⟩
    rw [← em2]
    have ym2 : yL m2 b A := by rw [em2]; exact ym1.up (by omega)
    have nm2 := ym2.1.n
    have sm2 := ym2.1.s
    have rm2 := ym2.1.r
    refine zT.iret dX13_left_25 rfl ?_
    rw [eQ9]
    refine ⟨?_, rfl, ?_⟩
    · first
        | (rw [if_neg (by omega)])
        | (rw [if_pos (by omega)]; rw [ym2.2 (8 + 3 * s + c) (by omega) (by omega), nm2, yhad_a ym2.1.g (Int.le_refl _)])
    · first
        | (rw [if_neg (by omega), em2, em1]; done)
        | (rw [if_pos (by omega), em2, em1]; done)
  · refine zT.iload_n 2 dX13_left_12 rfl rfl ?_
    refine zT.iconst dX13_left_13 ?_
    refine zT.iconst dX13_left_14 ?_
    refine zT.callS (M' := mX13_isIn) [zI c, zI 0, zI 1] [] dX13_left_15 kX13_189 rfl rfl (C_X13_isIn (by first | assumption | exact zq_i _ | exact zand_i _ _ | exact zor_i _ _ | exact zN _ | omega) (by first | assumption | exact zq_i _ | exact zand_i _ _ | exact zor_i _ _ | exact zN _ | omega) (by first | assumption | exact zq_i _ | exact zand_i _ _ | exact zor_i _ _ | exact zN _ | omega)) (by decide) (k' := 0) (n' := 0) (by omega) (by omega) (by decide) (zdk (v := some (zI (zq (0 ≤ c ∧ c ≤ 1)))) ?_) (fun _ _ _ _ h => h.elim)
    show zT G _ _ _ _ [zI (zq (0 ≤ c ∧ c ≤ 1))] _ _ _ _ _ _
    refine zT.if_neB (tgt := 26) dX13_left_18 (by decide) (fun c18 => ?_) (fun c18 => ?_)
    · refine zT.aload_n 0 dX13_left_26 rfl rfl ?_
      refine zT.iconst dX13_left_27 ?_
      refine zT.putI dX13_left_28 fX13_122 zs_1000 rfl (zMod.k hb) (j := 0) (by decide) rfl (by first | assumption | exact zq_i _ | exact zand_i _ _ | exact zor_i _ _ | exact zN _ | omega) ?_
      obtain ⟨m3, em3⟩ : ∃ z, z = zup m1 b 1000 0 := ⟨_, rfl⟩
      rw [← em3]
      have ym3 : yL m3 b A := by rw [em3]; exact ym1.up (by omega)
      have nm3 := ym3.1.n
      have sm3 := ym3.1.s
      have rm3 := ym3.1.r
      refine zT.aload_n 0 dX13_left_31 rfl rfl ?_
      refine zT.iload_n 1 dX13_left_32 rfl rfl ?_
      refine zT.iload_n 2 dX13_left_33 rfl rfl ?_
      refine zT.callV (M' := mX13_leftOf) (b := b) [zI s, zI c] [] dX13_left_34 kX13_315 rfl rfl (ci := 10) (r := (RX13, TX13, 62)) rfl (zMod.k hb) (C_X13_leftOf hb (by first | assumption | exact zq_i _ | exact zand_i _ _ | exact zor_i _ _ | exact zN _ | omega) (by first | assumption | exact zq_i _ | exact zand_i _ _ | exact zor_i _ _ | exact zN _ | omega) (by first | assumption | exact zq_i _ | exact zand_i _ _ | exact zor_i _ _ | exact zN _ | omega)) (by decide) (k' := 0) (n' := 0) (by omega) (by omega) (by decide) (zdk (v := some (zI (m3 (b + 2) (8 + 3 * s + c) - yhad m3 b s c (m3 (b + 2) 58)))) ?_) (fun _ _ _ _ h => h.elim)
      show zT G _ _ _ _ [zI (m3 (b + 2) (8 + 3 * s + c) - yhad m3 b s c (m3 (b + 2) 58))] _ _ _ _ _ _
      refine zT.iret dX13_left_37 rfl ?_
      rw [eQ9]
      refine ⟨?_, rfl, ?_⟩
      · first
          | (rw [if_neg (by omega)])
          | (rw [if_pos (by omega)]; rw [ym3.2 (8 + 3 * s + c) (by omega) (by omega), nm3, yhad_a ym3.1.g (Int.le_refl _)])
      · first
          | (rw [if_neg (by omega), em3, em1]; done)
          | (rw [if_pos (by omega), em3, em1]; done)
    · refine zT.aload_n 0 dX13_left_21 rfl rfl ?_
      refine zT.callV (M' := mX13_refuse) (b := b) [] [] dX13_left_22 kX13_277 rfl rfl (ci := 10) (r := (RX13, TX13, 62)) rfl (zMod.k hb) (C_X13_refuse hb) (by decide) (k' := 0) (n' := 0) (by omega) (by omega) (by decide) (zdk (v := some (zI 0)) ?_) (fun _ _ _ _ h => h.elim)
      show zT G _ _ _ _ [zI 0] _ _ _ _ _ _
      obtain ⟨m4, em4⟩ : ∃ z, z = zup m1 b 1000 1 := ⟨_, rfl⟩
      rw [← em4]
      have ym4 : yL m4 b A := by rw [em4]; exact ym1.up (by omega)
      have nm4 := ym4.1.n
      have sm4 := ym4.1.s
      have rm4 := ym4.1.r
      refine zT.iret dX13_left_25 rfl ?_
      rw [eQ9]
      refine ⟨?_, rfl, ?_⟩
      · first
          | (rw [if_neg (by omega)])
          | (rw [if_pos (by omega)]; rw [ym4.2 (8 + 3 * s + c) (by omega) (by omega), nm4, yhad_a ym4.1.g (Int.le_refl _)])
      · first
          | (rw [if_neg (by omega), em4, em1]; done)
          | (rw [if_pos (by omega), em4, em1]; done)

theorem C_X13_fault {G : zG} {S : zS} {m : zMm} {b : Int} {A : zMm} (hb : zMod S b) (hA : yEq m b A) (hV : aVd A)  : zC G mX13_fault 0 0 0 [zR b] S m (zDet (some (zI (A 0 1010))) S (zup m b 1000 0)) zNX := by
  have ym := hA.R hV
  have nm := ym.n
  have sm := ym.s
  have rm := ym.r
  have hk := hV.ki.1
  have hk0 := hk.1
  have hp0 := hV.pl.1
  have hp1 := hV.pl.2.1
  refine zC.of [zR b] (by decide) rfl (zEn1 (zcR _) (zEn0 (by simp))) rfl ?_
  refine zT.rng hb.a1014 (fun zN => ?_)
  obtain ⟨Q9, eQ9⟩ : ∃ z : zQt, z = (zDet (some (zI (A 0 1010))) S (zup m b 1000 0)) := ⟨_, rfl⟩
  rw [← eQ9]
  refine zT.aload_n 0 dX13_fault_0 rfl rfl ?_
  refine zT.iconst dX13_fault_1 ?_
  refine zT.putI dX13_fault_2 fX13_122 zs_1000 rfl (zMod.k hb) (j := 0) (by decide) rfl (by first | assumption | exact zq_i _ | exact zand_i _ _ | exact zor_i _ _ | exact zN _ | omega) ?_
  obtain ⟨m1, em1⟩ : ∃ z, z = zup m b 1000 0 := ⟨_, rfl⟩
  rw [← em1]
  have ym1 : yR m1 b A := by rw [em1]; exact ym.up (by omega)
  have nm1 := ym1.n
  have sm1 := ym1.s
  have rm1 := ym1.r
  refine zT.aload_n 0 dX13_fault_5 rfl rfl ?_
  refine zT.getI dX13_fault_6 fX13_180 rfl (zMod.k hb) (j := 10) (by decide) rfl (fun z6 => ?_)
  have r6 : m1 b 1010 = m b 1010 := by rw [em1, zup_ne (by omega)]
  rw [r6] at z6 ⊢
  refine zT.iret dX13_fault_9 rfl ?_
  rw [eQ9]
  exact ⟨by have q := hA 0 1010 (by omega) (by omega); rw [Int.add_zero] at q; rw [q], rfl, by rw [em1]⟩

theorem C_X13_why {G : zG} {S : zS} {m : zMm} {b : Int} {A : zMm} (hb : zMod S b) (hA : yEq m b A) (hV : aVd A)  : zC G mX13_why 0 0 0 [zR b] S m (zDet (some (zI (A 0 1026))) S (zup m b 1000 0)) zNX := by
  have ym := hA.R hV
  have nm := ym.n
  have sm := ym.s
  have rm := ym.r
  have hk := hV.ki.1
  have hk0 := hk.1
  have hp0 := hV.pl.1
  have hp1 := hV.pl.2.1
  refine zC.of [zR b] (by decide) rfl (zEn1 (zcR _) (zEn0 (by simp))) rfl ?_
  refine zT.rng hb.a1014 (fun zN => ?_)
  obtain ⟨Q9, eQ9⟩ : ∃ z : zQt, z = (zDet (some (zI (A 0 1026))) S (zup m b 1000 0)) := ⟨_, rfl⟩
  rw [← eQ9]
  refine zT.aload_n 0 dX13_why_0 rfl rfl ?_
  refine zT.iconst dX13_why_1 ?_
  refine zT.putI dX13_why_2 fX13_122 zs_1000 rfl (zMod.k hb) (j := 0) (by decide) rfl (by first | assumption | exact zq_i _ | exact zand_i _ _ | exact zor_i _ _ | exact zN _ | omega) ?_
  obtain ⟨m1, em1⟩ : ∃ z, z = zup m b 1000 0 := ⟨_, rfl⟩
  rw [← em1]
  have ym1 : yR m1 b A := by rw [em1]; exact ym.up (by omega)
  have nm1 := ym1.n
  have sm1 := ym1.s
  have rm1 := ym1.r
  refine zT.aload_n 0 dX13_why_5 rfl rfl ?_
  refine zT.getI dX13_why_6 fX13_42 rfl (zMod.k hb) (j := 26) (by decide) rfl (fun z6 => ?_)
  have r6 : m1 b 1026 = m b 1026 := by rw [em1, zup_ne (by omega)]
  rw [r6] at z6 ⊢
  refine zT.iret dX13_why_9 rfl ?_
  rw [eQ9]
  exact ⟨by have q := hA 0 1026 (by omega) (by omega); rw [Int.add_zero] at q; rw [q], rfl, by rw [em1]⟩

theorem C_X13_go {G : zG} {S : zS} {m : zMm} {b : Int} {A : zMm} (hb : zMod S b) (hA : yEq m b A) (hV : aVd A) {k w : Int} (hk1 : zi k) (hw : zi w) : zC G mX13_go 2 0 0 [zR b, zI k, zI w] S m (zDet (some (zI (if 0 ≤ k ∧ k < (A 2 58) ∧ 0 ≤ w ∧ w ≤ 4 then (aGo (A 2) 58) k w else -1))) S (zup m b 1000 0)) zNX := by
  have ym := hA.R hV
  have nm := ym.n
  have sm := ym.s
  have rm := ym.r
  have hk := hV.ki.1
  have hk0 := hk.1
  have hp0 := hV.pl.1
  have hp1 := hV.pl.2.1
  refine zC.of [zR b, zI k, zI w] (by decide) rfl (zEn1 (zcR _) (zEn1 (zcI _) (zEn1 (zcI _) (zEn0 (by simp))))) rfl ?_
  refine zT.rng hb.a1014 (fun zN => ?_)
  obtain ⟨Q9, eQ9⟩ : ∃ z : zQt, z = (zDet (some (zI (if 0 ≤ k ∧ k < (A 2 58) ∧ 0 ≤ w ∧ w ≤ 4 then (aGo (A 2) 58) k w else -1))) S (zup m b 1000 0)) := ⟨_, rfl⟩
  rw [← eQ9]
  refine zT.aload_n 0 dX13_go_0 rfl rfl ?_
  refine zT.iconst dX13_go_1 ?_
  refine zT.putI dX13_go_2 fX13_122 zs_1000 rfl (zMod.k hb) (j := 0) (by decide) rfl (by first | assumption | exact zq_i _ | exact zand_i _ _ | exact zor_i _ _ | exact zN _ | omega) ?_
  obtain ⟨m1, em1⟩ : ∃ z, z = zup m b 1000 0 := ⟨_, rfl⟩
  rw [← em1]
  have ym1 : yR m1 b A := by rw [em1]; exact ym.up (by omega)
  have nm1 := ym1.n
  have sm1 := ym1.s
  have rm1 := ym1.r
  refine zT.iload_n 1 dX13_go_5 rfl rfl ?_
  refine zT.if_lt (tgt := 35) dX13_go_6 (by decide) (by first | assumption | exact zq_i _ | exact zand_i _ _ | exact zor_i _ _ | exact zN _ | omega) (fun c6 => ?_) (fun c6 => ?_)
  · refine zT.iconst dX13_go_35 ?_
    refine zT.iret dX13_go_36 rfl ?_
    rw [eQ9]
    refine ⟨?_, rfl, by rw [em1]⟩
    first
      | rw [if_neg (by omega)]
      | rw [if_pos (by omega), ym1.g.2 k w (by omega) (by omega) (by omega) (by omega)]
  · refine zT.iload_n 1 dX13_go_9 rfl rfl ?_
    refine zT.aload_n 0 dX13_go_10 rfl rfl ?_
    refine zT.callV (M' := mX13_goes) (b := b) [] [zI k] dX13_go_11 kX13_284 rfl rfl (ci := 10) (r := (RX13, TX13, 62)) rfl (zMod.k hb) (C_X13_goes hb) (by decide) (k' := 0) (n' := 0) (by omega) (by omega) (by simp only [List.map, zcI, zcJ, zcR, List.sum_cons, List.sum_nil]; decide) (zdk (v := some (zI (m1 (b + 2) (58)))) ?_) (fun _ _ _ _ h => h.elim)
    show zT G _ _ _ _ [zI (m1 (b + 2) (58)), zI k] _ _ _ _ _ _
    refine zT.ic_ge (tgt := 35) dX13_go_14 (by decide) (by first | assumption | exact zq_i _ | exact zand_i _ _ | exact zor_i _ _ | exact zN _ | omega) (by first | assumption | exact zq_i _ | exact zand_i _ _ | exact zor_i _ _ | exact zN _ | omega) (fun c14 => ?_) (fun c14 => ?_)
    · refine zT.iconst dX13_go_35 ?_
      refine zT.iret dX13_go_36 rfl ?_
      rw [eQ9]
      refine ⟨?_, rfl, by rw [em1]⟩
      first
        | rw [if_neg (by omega)]
        | rw [if_pos (by omega), ym1.g.2 k w (by omega) (by omega) (by omega) (by omega)]
    · refine zT.iload_n 2 dX13_go_17 rfl rfl ?_
      refine zT.iconst dX13_go_18 ?_
      refine zT.iconst dX13_go_19 ?_
      refine zT.callS (M' := mX13_isIn) [zI w, zI 0, zI 4] [] dX13_go_20 kX13_189 rfl rfl (C_X13_isIn (by first | assumption | exact zq_i _ | exact zand_i _ _ | exact zor_i _ _ | exact zN _ | omega) (by first | assumption | exact zq_i _ | exact zand_i _ _ | exact zor_i _ _ | exact zN _ | omega) (by first | assumption | exact zq_i _ | exact zand_i _ _ | exact zor_i _ _ | exact zN _ | omega)) (by decide) (k' := 0) (n' := 0) (by omega) (by omega) (by decide) (zdk (v := some (zI (zq (0 ≤ w ∧ w ≤ 4)))) ?_) (fun _ _ _ _ h => h.elim)
      show zT G _ _ _ _ [zI (zq (0 ≤ w ∧ w ≤ 4))] _ _ _ _ _ _
      refine zT.if_eqB (tgt := 35) dX13_go_23 (by decide) (fun c23 => ?_) (fun c23 => ?_)
      · refine zT.iconst dX13_go_35 ?_
        refine zT.iret dX13_go_36 rfl ?_
        rw [eQ9]
        refine ⟨?_, rfl, by rw [em1]⟩
        first
          | rw [if_neg (by omega)]
          | rw [if_pos (by omega), ym1.g.2 k w (by omega) (by omega) (by omega) (by omega)]
      · refine zT.aload_n 0 dX13_go_26 rfl rfl ?_
        refine zT.iload_n 1 dX13_go_27 rfl rfl ?_
        refine zT.iload_n 2 dX13_go_28 rfl rfl ?_
        refine zT.callV (M' := mX13_go5) (b := b) [zI k, zI w] [] dX13_go_29 kX13_280 rfl rfl (ci := 10) (r := (RX13, TX13, 62)) rfl (zMod.k hb) (C_X13_go5 hb (by first | assumption | exact zq_i _ | exact zand_i _ _ | exact zor_i _ _ | exact zN _ | omega) (by first | assumption | exact zq_i _ | exact zand_i _ _ | exact zor_i _ _ | exact zN _ | omega)) (by decide) (k' := 0) (n' := 0) (by omega) (by omega) (by decide) (zdk (v := some (zI (m1 (b + 2) (59 + 5 * k + w)))) ?_) (fun _ _ _ _ h => h.elim)
        show zT G _ _ _ _ [zI (m1 (b + 2) (59 + 5 * k + w))] _ _ _ _ _ _
        refine zT.goto (tgt := 36) dX13_go_32 (by decide) ?_
        refine zT.iret dX13_go_36 rfl ?_
        rw [eQ9]
        refine ⟨?_, rfl, by rw [em1]⟩
        first
          | rw [if_neg (by omega)]
          | rw [if_pos (by omega), ym1.g.2 k w (by omega) (by omega) (by omega) (by omega)]

theorem C_X13_ends {G : zG} {S : zS} {m : zMm} {b : Int} {A : zMm} (hb : zMod S b) (hA : yEq m b A) (hV : aVd A)  : zC G mX13_ends 3 0 0 [zR b] S m (zDet (some (zI (aends (aGo (A 2) 58) (A 2 58)))) S (zup m b 1000 0)) zNX := by
  have ym := hA.R hV
  have nm := ym.n
  have sm := ym.s
  have rm := ym.r
  have hk := hV.ki.1
  have hk0 := hk.1
  have hp0 := hV.pl.1
  have hp1 := hV.pl.2.1
  refine zC.of [zR b] (by decide) rfl (zEn1 (zcR _) (zEn0 (by simp))) rfl ?_
  refine zT.rng hb.a1014 (fun zN => ?_)
  obtain ⟨Q9, eQ9⟩ : ∃ z : zQt, z = (zDet (some (zI (aends (aGo (A 2) 58) (A 2 58)))) S (zup m b 1000 0)) := ⟨_, rfl⟩
  rw [← eQ9]
  refine zT.aload_n 0 dX13_ends_0 rfl rfl ?_
  refine zT.iconst dX13_ends_1 ?_
  refine zT.putI dX13_ends_2 fX13_122 zs_1000 rfl (zMod.k hb) (j := 0) (by decide) rfl (by first | assumption | exact zq_i _ | exact zand_i _ _ | exact zor_i _ _ | exact zN _ | omega) ?_
  obtain ⟨m1, em1⟩ : ∃ z, z = zup m b 1000 0 := ⟨_, rfl⟩
  rw [← em1]
  have ym1 : yR m1 b A := by rw [em1]; exact ym.up (by omega)
  have nm1 := ym1.n
  have sm1 := ym1.s
  have rm1 := ym1.r
  refine zT.aload_n 0 dX13_ends_5 rfl rfl ?_
  refine zT.callV (M' := mX13_endsAt) (b := b) [] [] dX13_ends_6 kX13_321 rfl rfl (ci := 10) (r := (RX13, TX13, 62)) rfl (zMod.k hb) (C_X13_endsAt hb (by first | assumption | exact zq_i _ | exact zand_i _ _ | exact zor_i _ _ | exact zN _ | omega)) (by decide) (k' := 0) (n' := 0) (by omega) (by omega) (by decide) (zdk (v := some (zI (yends m1 b (m1 (b + 2) 58)))) ?_) (fun _ _ _ _ h => h.elim)
  show zT G _ _ _ _ [zI (yends m1 b (m1 (b + 2) 58))] _ _ _ _ _ _
  refine zT.iret dX13_ends_9 rfl ?_
  rw [eQ9]
  exact ⟨by rw [nm1, yends_a ym1.g (Int.le_refl _)], rfl, by rw [em1]⟩

theorem C_X13_isDone {G : zG} {S : zS} {m : zMm} {b : Int} (hb : zMod S b) {s : Int} (hr : zRow m b) (hs : 0 ≤ s ∧ s < m (b + 2) 5) : zC G mX13_isDone 2 0 0 [zR b, zI s] S m (zDet (some (zI (zq (m (b + 2) (8 + 3 * s + 0) - yhad m b s 0 (m (b + 2) 58) ≤ 0 ∧ m (b + 2) (8 + 3 * s + 1) - yhad m b s 1 (m (b + 2) 58) ≤ 0)))) S m) zNX := by
  have hn := hr.nu
  have hb0 := yhad_b (s := s) (c := 0) hr hn.2.2.2.2.2.2.1 (Int.le_refl _)
  have hb1 := yhad_b (s := s) (c := 1) hr hn.2.2.2.2.2.2.1 (Int.le_refl _)
  have hm0 := hr.mi s 0 (by omega) (by omega) (by omega) (by omega)
  have hm1 := hr.mi s 1 (by omega) (by omega) (by omega) (by omega)
  refine zC.of [zR b, zI s] (by decide) rfl (zEn1 (zcR _) (zEn1 (zcI _) (zEn0 (by simp)))) rfl ?_
  refine zT.aload_n 0 dX13_isDone_0 rfl rfl ?_
  refine zT.iload_n 1 dX13_isDone_1 rfl rfl ?_
  refine zT.iconst dX13_isDone_2 ?_
  refine zT.callV (M' := mX13_leftOf) (b := b) [zI s, zI 0] [] dX13_isDone_3 kX13_315 rfl rfl (ci := 10) (r := (RX13, TX13, 62)) rfl (zMod.k hb) (C_X13_leftOf hb (by first | assumption | exact zq_i _ | exact zand_i _ _ | exact zor_i _ _ | exact zN _ | omega) (by first | assumption | exact zq_i _ | exact zand_i _ _ | exact zor_i _ _ | exact zN _ | omega) (by first | assumption | exact zq_i _ | exact zand_i _ _ | exact zor_i _ _ | exact zN _ | omega)) (by decide) (k' := 0) (n' := 0) (by omega) (by omega) (by decide) (zdk (v := some (zI (m (b + 2) (8 + 3 * s + 0) - yhad m b s 0 (m (b + 2) 58)))) ?_) (fun _ _ _ _ h => h.elim)
  show zT G _ _ _ _ [zI (m (b + 2) (8 + 3 * s + 0) - yhad m b s 0 (m (b + 2) 58))] _ _ _ _ _ _
  refine zT.if_gt (tgt := 22) dX13_isDone_6 (by decide) (by first | assumption | exact zq_i _ | exact zand_i _ _ | exact zor_i _ _ | exact zN _ | omega) (fun c6 => ?_) (fun c6 => ?_)
  · refine zT.iconst dX13_isDone_22 ?_
    refine zT.zret dX13_isDone_23 rfl (by omega) ?_
    (first | rw [zq_t (by omega)] | rw [zq_f (by omega)]); exact ⟨rfl, rfl, rfl⟩
  · refine zT.aload_n 0 dX13_isDone_9 rfl rfl ?_
    refine zT.iload_n 1 dX13_isDone_10 rfl rfl ?_
    refine zT.iconst dX13_isDone_11 ?_
    refine zT.callV (M' := mX13_leftOf) (b := b) [zI s, zI 1] [] dX13_isDone_12 kX13_315 rfl rfl (ci := 10) (r := (RX13, TX13, 62)) rfl (zMod.k hb) (C_X13_leftOf hb (by first | assumption | exact zq_i _ | exact zand_i _ _ | exact zor_i _ _ | exact zN _ | omega) (by first | assumption | exact zq_i _ | exact zand_i _ _ | exact zor_i _ _ | exact zN _ | omega) (by first | assumption | exact zq_i _ | exact zand_i _ _ | exact zor_i _ _ | exact zN _ | omega)) (by decide) (k' := 0) (n' := 0) (by omega) (by omega) (by decide) (zdk (v := some (zI (m (b + 2) (8 + 3 * s + 1) - yhad m b s 1 (m (b + 2) 58)))) ?_) (fun _ _ _ _ h => h.elim)
    show zT G _ _ _ _ [zI (m (b + 2) (8 + 3 * s + 1) - yhad m b s 1 (m (b + 2) 58))] _ _ _ _ _ _
    refine zT.if_gt (tgt := 22) dX13_isDone_15 (by decide) (by first | assumption | exact zq_i _ | exact zand_i _ _ | exact zor_i _ _ | exact zN _ | omega) (fun c15 => ?_) (fun c15 => ?_)
    · refine zT.iconst dX13_isDone_22 ?_
      refine zT.zret dX13_isDone_23 rfl (by omega) ?_
      (first | rw [zq_t (by omega)] | rw [zq_f (by omega)]); exact ⟨rfl, rfl, rfl⟩
    · refine zT.iconst dX13_isDone_18 ?_
      refine zT.goto (tgt := 23) dX13_isDone_19 (by decide) ?_
      refine zT.zret dX13_isDone_23 rfl (by omega) ?_
      (first | rw [zq_t (by omega)] | rw [zq_f (by omega)]); exact ⟨rfl, rfl, rfl⟩

theorem C_X13_done {G : zG} {S : zS} {m : zMm} {b : Int} {A : zMm} (hb : zMod S b) (hA : yEq m b A) (hV : aVd A)  : zC G mX13_done 4 0 0 [zR b] S m (zDet (some (zI (fDone (aK (A 0 1023) (A 2)) (A 2 58) (aGo (A 2) 58) ((aK (A 0 1023) (A 2)) 5)))) S (zup m b 1000 0)) zNX := by
  have ym := hA.R hV
  have nm := ym.n
  have sm := ym.s
  have rm := ym.r
  have hk := hV.ki.1
  have hk0 := hk.1
  have hp0 := hV.pl.1
  have hp1 := hV.pl.2.1
  refine zC.of [zR b, zU, zU] (by decide) rfl (zEn1 (zcR _) (zEn0 (by simp))) rfl ?_
  refine zT.rng hb.a1014 (fun zN => ?_)
  obtain ⟨Q9, eQ9⟩ : ∃ z : zQt, z = (zDet (some (zI (fDone (aK (A 0 1023) (A 2)) (A 2 58) (aGo (A 2) 58) ((aK (A 0 1023) (A 2)) 5)))) S (zup m b 1000 0)) := ⟨_, rfl⟩
  rw [← eQ9]
  refine zT.aload_n 0 dX13_done_0 rfl rfl ?_
  refine zT.iconst dX13_done_1 ?_
  refine zT.putI dX13_done_2 fX13_122 zs_1000 rfl (zMod.k hb) (j := 0) (by decide) rfl (by first | assumption | exact zq_i _ | exact zand_i _ _ | exact zor_i _ _ | exact zN _ | omega) ?_
  obtain ⟨m1, em1⟩ : ∃ z, z = zup m b 1000 0 := ⟨_, rfl⟩
  rw [← em1]
  have ym1 : yR m1 b A := by rw [em1]; exact ym.up (by omega)
  have nm1 := ym1.n
  have sm1 := ym1.s
  have rm1 := ym1.r
  refine zT.iconst dX13_done_5 ?_
  refine zT.istore_n 1 dX13_done_6 rfl (by decide) (zpre1 rfl (zcR _)) ?_
  show zT G _ _ _ [zR b, zI 0, zU] _ _ _ _ _ _ _
  refine zT.iconst dX13_done_7 ?_
  refine zT.istore_n 2 dX13_done_8 rfl (by decide) (zpre1 rfl (zcI _)) ?_
  show zT G _ _ _ [zR b, zI 0, zI 0] _ _ _ _ _ _ _
  have L9 : ∀ (N : Nat) (s : Int) (v : Int), (0 ≤ s) → (s ≤ (aK (A 0 1023) (A 2)) 5) → (v = fDone (aK (A 0 1023) (A 2)) (A 2 58) (aGo (A 2) 58) s) → (zi v) → (((aK (A 0 1023) (A 2)) 5 - s).toNat) < N → zT G mX13_done 4 9 [zR b, zI v, zI s] [] S m1 0 0 Q9 zNX := by
    intro N
    induction N with
    | zero => intro s v s0 s1 hv hvi hN; exact absurd hN (Nat.not_lt_zero _)
    | succ N ih9 =>
      intro s v s0 s1 hv hvi hN
      refine zT.iload_n 2 dX13_done_9 rfl rfl ?_
      refine zT.aload_n 0 dX13_done_10 rfl rfl ?_
      refine zT.callV (M' := mX13_slices) (b := b) [] [zI s] dX13_done_11 kX13_271 rfl rfl (ci := 10) (r := (RX13, TX13, 62)) rfl (zMod.k hb) (C_X13_slices hb) (by decide) (k' := 0) (n' := 0) (by omega) (by omega) (by simp only [List.map, zcI, zcJ, zcR, List.sum_cons, List.sum_nil]; decide) (zdk (v := some (zI (m1 (b + 2) (5)))) ?_) (fun _ _ _ _ h => h.elim)
      show zT G _ _ _ _ [zI (m1 (b + 2) (5)), zI s] _ _ _ _ _ _
      refine zT.ic_ge (tgt := 37) dX13_done_14 (by decide) (by first | assumption | exact zq_i _ | exact zand_i _ _ | exact zor_i _ _ | exact zN _ | omega) (by first | assumption | exact zq_i _ | exact zand_i _ _ | exact zor_i _ _ | exact zN _ | omega) (fun c14 => ?_) (fun c14 => ?_)
      · refine zT.iload_n 1 dX13_done_37 rfl rfl ?_
        refine zT.iret dX13_done_38 rfl ?_
        rw [eQ9]
        exact ⟨by rw [hv, show s = (aK (A 0 1023) (A 2)) 5 by omega], rfl, by rw [em1]⟩
      · refine zT.aload_n 0 dX13_done_17 rfl rfl ?_
        refine zT.iload_n 2 dX13_done_18 rfl rfl ?_
        refine zT.callV (M' := mX13_isDone) (b := b) [zI s] [] dX13_done_19 kX13_324 rfl rfl (ci := 10) (r := (RX13, TX13, 62)) rfl (zMod.k hb) (C_X13_isDone hb (by first | assumption | exact zq_i _ | exact zand_i _ _ | exact zor_i _ _ | exact zN _ | omega) (by first | assumption | exact zq_i _ | exact zand_i _ _ | exact zor_i _ _ | exact zN _ | omega)) (by decide) (k' := 0) (n' := 0) (by omega) (by omega) (by decide) (zdk (v := some (zI (zq (m1 (b + 2) (8 + 3 * s + 0) - yhad m1 b s 0 (m1 (b + 2) 58) ≤ 0 ∧ m1 (b + 2) (8 + 3 * s + 1) - yhad m1 b s 1 (m1 (b + 2) 58) ≤ 0)))) ?_) (fun _ _ _ _ h => h.elim)
        show zT G _ _ _ _ [zI (zq (m1 (b + 2) (8 + 3 * s + 0) - yhad m1 b s 0 (m1 (b + 2) 58) ≤ 0 ∧ m1 (b + 2) (8 + 3 * s + 1) - yhad m1 b s 1 (m1 (b + 2) 58) ≤ 0))] _ _ _ _ _ _
        refine zT.if_eqB (tgt := 31) dX13_done_22 (by decide) (fun c22 => ?_) (fun c22 => ?_)
        · refine zT.iinc 2 dX13_done_31 rfl (by decide) (zpre1 rfl (zcI _)) ?_
          show zT G _ _ _ [zR b, zI v, zI (s + 1)] _ _ _ _ _ _ _
          refine zT.goto (tgt := 9) dX13_done_34 (by decide) ?_
          exact ih9 _ _ (by first | assumption | exact zq_i _ | exact zand_i _ _ | exact zor_i _ _ | exact zN _ | omega) (by first | assumption | exact zq_i _ | exact zand_i _ _ | exact zor_i _ _ | exact zN _ | omega) (by
              unfold fDone at *
              rw [zfd_s s0, ← hv]
              have e0 := ym1.k (8 + 3 * s + 0) (by omega) (by omega)
              have e1 := ym1.k (8 + 3 * s + 1) (by omega) (by omega)
              have hc0 := yhad_a (s := s) (c := 0) ym1.g (Int.le_refl _)
              have hc1 := yhad_a (s := s) (c := 1) ym1.g (Int.le_refl _)
              first
                | rw [zite_t (by unfold fDn; rw [← hc0, ← hc1, ← nm1]; omega)]
                | rw [zite_f (by unfold fDn; rw [← hc0, ← hc1, ← nm1]; omega)]) (by first | exact zor_i _ _ | assumption) (by omega)
        · refine zT.iload_n 1 dX13_done_25 rfl rfl ?_
          refine zT.iconst dX13_done_26 ?_
          refine zT.iload_n 2 dX13_done_27 rfl rfl ?_
          refine zT.ishl dX13_done_28 (by first | assumption | exact zq_i _ | exact zand_i _ _ | exact zor_i _ _ | exact zN _ | omega) (by first | assumption | exact zq_i _ | exact zand_i _ _ | exact zor_i _ _ | exact zN _ | omega) ?_
          refine zT.ior dX13_done_29 ?_
          refine zT.istore_n 1 dX13_done_30 rfl (by decide) (zpre1 rfl (zcR _)) ?_
          show zT G _ _ _ [zR b, zI (zor v (1 * 2 ^ s.toNat)), zI s] _ _ _ _ _ _ _
          refine zT.iinc 2 dX13_done_31 rfl (by decide) (zpre1 rfl (zcI _)) ?_
          show zT G _ _ _ [zR b, zI (zor v (1 * 2 ^ s.toNat)), zI (s + 1)] _ _ _ _ _ _ _
          refine zT.goto (tgt := 9) dX13_done_34 (by decide) ?_
          exact ih9 _ _ (by first | assumption | exact zq_i _ | exact zand_i _ _ | exact zor_i _ _ | exact zN _ | omega) (by first | assumption | exact zq_i _ | exact zand_i _ _ | exact zor_i _ _ | exact zN _ | omega) (by
              unfold fDone at *
              rw [zfd_s s0, ← hv]
              have e0 := ym1.k (8 + 3 * s + 0) (by omega) (by omega)
              have e1 := ym1.k (8 + 3 * s + 1) (by omega) (by omega)
              have hc0 := yhad_a (s := s) (c := 0) ym1.g (Int.le_refl _)
              have hc1 := yhad_a (s := s) (c := 1) ym1.g (Int.le_refl _)
              first
                | rw [zite_t (by unfold fDn; rw [← hc0, ← hc1, ← nm1]; omega)]
                | rw [zite_f (by unfold fDn; rw [← hc0, ← hc1, ← nm1]; omega)]) (by first | exact zor_i _ _ | assumption) (by omega)
  exact L9 _ _ _ (by first | assumption | exact zq_i _ | exact zand_i _ _ | exact zor_i _ _ | exact zN _ | omega) (by first | assumption | exact zq_i _ | exact zand_i _ _ | exact zor_i _ _ | exact zN _ | omega) (by rfl) (by first | assumption | exact zq_i _ | exact zand_i _ _ | exact zor_i _ _ | exact zN _ | omega) (Nat.lt_succ_self _)

theorem C_X13_on {G : zG} {S : zS} {m : zMm} {b : Int} {A : zMm} (hb : zMod S b) (hA : yEq m b A) (hV : aVd A) {t : Int} (ht : zi t) : zC G mX13_on 2 0 0 [zR b, zI t] S m (zDet (some (zI (if 0 ≤ t ∧ t ≤ 999 then fOn (aGo (A 2) 58) t (A 2 58) else -1))) S (zup m b 1000 0)) zNX := by
  have ym := hA.R hV
  have nm := ym.n
  have sm := ym.s
  have rm := ym.r
  have hk := hV.ki.1
  have hk0 := hk.1
  have hp0 := hV.pl.1
  have hp1 := hV.pl.2.1
  refine zC.of [zR b, zI t, zU, zU] (by decide) rfl (zEn1 (zcR _) (zEn1 (zcI _) (zEn0 (by simp)))) rfl ?_
  refine zT.rng hb.a1014 (fun zN => ?_)
  obtain ⟨Q9, eQ9⟩ : ∃ z : zQt, z = (zDet (some (zI (if 0 ≤ t ∧ t ≤ 999 then fOn (aGo (A 2) 58) t (A 2 58) else -1))) S (zup m b 1000 0)) := ⟨_, rfl⟩
  rw [← eQ9]
  refine zT.aload_n 0 dX13_on_0 rfl rfl ?_
  refine zT.iconst dX13_on_1 ?_
  refine zT.putI dX13_on_2 fX13_122 zs_1000 rfl (zMod.k hb) (j := 0) (by decide) rfl (by first | assumption | exact zq_i _ | exact zand_i _ _ | exact zor_i _ _ | exact zN _ | omega) ?_
  obtain ⟨m1, em1⟩ : ∃ z, z = zup m b 1000 0 := ⟨_, rfl⟩
  rw [← em1]
  have ym1 : yR m1 b A := by rw [em1]; exact ym.up (by omega)
  have nm1 := ym1.n
  have sm1 := ym1.s
  have rm1 := ym1.r
  refine zT.iload_n 1 dX13_on_5 rfl rfl ?_
  refine zT.iconst dX13_on_6 ?_
  refine zT.sipush dX13_on_7 ?_
  refine zT.callS (M' := mX13_isIn) [zI t, zI 0, zI 999] [] dX13_on_10 kX13_189 rfl rfl (C_X13_isIn (by first | assumption | exact zq_i _ | exact zand_i _ _ | exact zor_i _ _ | exact zN _ | omega) (by first | assumption | exact zq_i _ | exact zand_i _ _ | exact zor_i _ _ | exact zN _ | omega) (by first | assumption | exact zq_i _ | exact zand_i _ _ | exact zor_i _ _ | exact zN _ | omega)) (by decide) (k' := 0) (n' := 0) (by omega) (by omega) (by decide) (zdk (v := some (zI (zq (0 ≤ t ∧ t ≤ 999)))) ?_) (fun _ _ _ _ h => h.elim)
  show zT G _ _ _ _ [zI (zq (0 ≤ t ∧ t ≤ 999))] _ _ _ _ _ _
  refine zT.if_neB (tgt := 18) dX13_on_13 (by decide) (fun c13 => ?_) (fun c13 => ?_)
  · refine zT.iconst dX13_on_18 ?_
    refine zT.istore_n 2 dX13_on_19 rfl (by decide) (zpre1 rfl (zcI _)) ?_
    show zT G _ _ _ [zR b, zI t, zI 0, zU] _ _ _ _ _ _ _
    refine zT.iconst dX13_on_20 ?_
    refine zT.istore_n 3 dX13_on_21 rfl (by decide) (zpre1 rfl (zcI _)) ?_
    show zT G _ _ _ [zR b, zI t, zI 0, zI 0] _ _ _ _ _ _ _
    have L22 : ∀ (N : Nat) (k : Int) (v : Int), (0 ≤ k) → (k ≤ (A 2 58)) → (v = fOn (aGo (A 2) 58) t k) → (((A 2 58) - k).toNat) < N → zT G mX13_on 2 22 [zR b, zI t, zI v, zI k] [] S m1 0 0 Q9 zNX := by
      intro N
      induction N with
      | zero => intro k v k0 k1 hv hN; exact absurd hN (Nat.not_lt_zero _)
      | succ N ih22 =>
        intro k v k0 k1 hv hN
        refine zT.iload_n 3 dX13_on_22 rfl rfl ?_
        refine zT.aload_n 0 dX13_on_23 rfl rfl ?_
        refine zT.callV (M' := mX13_goes) (b := b) [] [zI k] dX13_on_24 kX13_284 rfl rfl (ci := 10) (r := (RX13, TX13, 62)) rfl (zMod.k hb) (C_X13_goes hb) (by decide) (k' := 0) (n' := 0) (by omega) (by omega) (by simp only [List.map, zcI, zcJ, zcR, List.sum_cons, List.sum_nil]; decide) (zdk (v := some (zI (m1 (b + 2) (58)))) ?_) (fun _ _ _ _ h => h.elim)
        show zT G _ _ _ _ [zI (m1 (b + 2) (58)), zI k] _ _ _ _ _ _
        refine zT.ic_ge (tgt := 65) dX13_on_27 (by decide) (by first | assumption | exact zq_i _ | exact zand_i _ _ | exact zor_i _ _ | exact zN _ | omega) (by first | assumption | exact zq_i _ | exact zand_i _ _ | exact zor_i _ _ | exact zN _ | omega) (fun c27 => ?_) (fun c27 => ?_)
        · refine zT.iload_n 2 dX13_on_65 rfl rfl ?_
          refine zT.iret dX13_on_66 rfl ?_
          rw [eQ9]
          exact ⟨by rw [if_pos (by omega), hv, show k = (A 2 58) by omega], rfl, by rw [em1]⟩
        · have ge : m1 (b + 2) (59 + 5 * k + 0) = aGo (A 2) 58 k 0 ∧ m1 (b + 2) (59 + 5 * k + 2) = aGo (A 2) 58 k 2 ∧ m1 (b + 2) (59 + 5 * k + 4) = aGo (A 2) 58 k 4 := ⟨ym1.g.2 k 0 (by omega) (by omega) (by omega) (by omega), ym1.g.2 k 2 (by omega) (by omega) (by omega) (by omega), ym1.g.2 k 4 (by omega) (by omega) (by omega) (by omega)⟩
          have gv := hV.pl.2.2 k (by omega) (by omega)
          refine zT.iload_n 1 dX13_on_30 rfl rfl ?_
          refine zT.aload_n 0 dX13_on_31 rfl rfl ?_
          refine zT.iload_n 3 dX13_on_32 rfl rfl ?_
          refine zT.callV (M' := mX13_from) (b := b) [zI k] [zI t] dX13_on_33 kX13_297 rfl rfl (ci := 10) (r := (RX13, TX13, 62)) rfl (zMod.k hb) (C_X13_from hb (by first | assumption | exact zq_i _ | exact zand_i _ _ | exact zor_i _ _ | exact zN _ | omega)) (by decide) (k' := 0) (n' := 0) (by omega) (by omega) (by simp only [List.map, zcI, zcJ, zcR, List.sum_cons, List.sum_nil]; decide) (zdk (v := some (zI (m1 (b + 2) (59 + 5 * k + 2)))) ?_) (fun _ _ _ _ h => h.elim)
          show zT G _ _ _ _ [zI (m1 (b + 2) (59 + 5 * k + 2)), zI t] _ _ _ _ _ _
          refine zT.ic_lt (tgt := 59) dX13_on_36 (by decide) (by first | assumption | exact zq_i _ | exact zand_i _ _ | exact zor_i _ _ | exact zN _ | omega) (by first | assumption | exact zq_i _ | exact zand_i _ _ | exact zor_i _ _ | exact zN _ | omega) (fun c36 => ?_) (fun c36 => ?_)
          · refine zT.iinc 3 dX13_on_59 rfl (by decide) (zpre1 rfl (zcI _)) ?_
            show zT G _ _ _ [zR b, zI t, zI v, zI (k + 1)] _ _ _ _ _ _ _
            refine zT.goto (tgt := 22) dX13_on_62 (by decide) ?_
            exact ih22 _ _ (by first | assumption | exact zq_i _ | exact zand_i _ _ | exact zor_i _ _ | exact zN _ | omega) (by first | assumption | exact zq_i _ | exact zand_i _ _ | exact zor_i _ _ | exact zN _ | omega) (by
                unfold fOn at *
                rw [zfd_s k0, ← hv]
                first
                  | rw [zite_t (by omega), ge.1]
                  | rw [zite_f (by omega)]) (by omega)
          · refine zT.iload_n 1 dX13_on_39 rfl rfl ?_
            refine zT.aload_n 0 dX13_on_40 rfl rfl ?_
            refine zT.iload_n 3 dX13_on_41 rfl rfl ?_
            refine zT.callV (M' := mX13_behind) (b := b) [zI k] [zI t] dX13_on_42 kX13_306 rfl rfl (ci := 10) (r := (RX13, TX13, 62)) rfl (zMod.k hb) (C_X13_behind hb (by first | assumption | exact zq_i _ | exact zand_i _ _ | exact zor_i _ _ | exact zN _ | omega)) (by decide) (k' := 0) (n' := 0) (by omega) (by omega) (by simp only [List.map, zcI, zcJ, zcR, List.sum_cons, List.sum_nil]; decide) (zdk (v := some (zI (m1 (b + 2) (59 + 5 * k + 2) + m1 (b + 2) (59 + 5 * k + 4)))) ?_) (fun _ _ _ _ h => h.elim)
            show zT G _ _ _ _ [zI (m1 (b + 2) (59 + 5 * k + 2) + m1 (b + 2) (59 + 5 * k + 4)), zI t] _ _ _ _ _ _
            refine zT.ic_ge (tgt := 59) dX13_on_45 (by decide) (by first | assumption | exact zq_i _ | exact zand_i _ _ | exact zor_i _ _ | exact zN _ | omega) (by first | assumption | exact zq_i _ | exact zand_i _ _ | exact zor_i _ _ | exact zN _ | omega) (fun c45 => ?_) (fun c45 => ?_)
            · refine zT.iinc 3 dX13_on_59 rfl (by decide) (zpre1 rfl (zcI _)) ?_
              show zT G _ _ _ [zR b, zI t, zI v, zI (k + 1)] _ _ _ _ _ _ _
              refine zT.goto (tgt := 22) dX13_on_62 (by decide) ?_
              exact ih22 _ _ (by first | assumption | exact zq_i _ | exact zand_i _ _ | exact zor_i _ _ | exact zN _ | omega) (by first | assumption | exact zq_i _ | exact zand_i _ _ | exact zor_i _ _ | exact zN _ | omega) (by
                  unfold fOn at *
                  rw [zfd_s k0, ← hv]
                  first
                    | rw [zite_t (by omega), ge.1]
                    | rw [zite_f (by omega)]) (by omega)
            · refine zT.iload_n 2 dX13_on_48 rfl rfl ?_
              refine zT.iconst dX13_on_49 ?_
              refine zT.aload_n 0 dX13_on_50 rfl rfl ?_
              refine zT.iload_n 3 dX13_on_51 rfl rfl ?_
              refine zT.iconst dX13_on_52 ?_
              refine zT.callV (M' := mX13_go5) (b := b) [zI k, zI 0] [zI 1, zI v] dX13_on_53 kX13_280 rfl rfl (ci := 10) (r := (RX13, TX13, 62)) rfl (zMod.k hb) (C_X13_go5 hb (by first | assumption | exact zq_i _ | exact zand_i _ _ | exact zor_i _ _ | exact zN _ | omega) (by first | assumption | exact zq_i _ | exact zand_i _ _ | exact zor_i _ _ | exact zN _ | omega)) (by decide) (k' := 0) (n' := 0) (by omega) (by omega) (by simp only [List.map, zcI, zcJ, zcR, List.sum_cons, List.sum_nil]; decide) (zdk (v := some (zI (m1 (b + 2) (59 + 5 * k + 0)))) ?_) (fun _ _ _ _ h => h.elim)
              show zT G _ _ _ _ [zI (m1 (b + 2) (59 + 5 * k + 0)), zI 1, zI v] _ _ _ _ _ _
              refine zT.ishl dX13_on_56 (by first | assumption | exact zq_i _ | exact zand_i _ _ | exact zor_i _ _ | exact zN _ | omega) (by first | assumption | exact zq_i _ | exact zand_i _ _ | exact zor_i _ _ | exact zN _ | omega) ?_
              refine zT.ior dX13_on_57 ?_
              refine zT.istore_n 2 dX13_on_58 rfl (by decide) (zpre1 rfl (zcI _)) ?_
              show zT G _ _ _ [zR b, zI t, zI (zor v (1 * 2 ^ (m1 (b + 2) (59 + 5 * k + 0)).toNat)), zI k] _ _ _ _ _ _ _
              refine zT.iinc 3 dX13_on_59 rfl (by decide) (zpre1 rfl (zcI _)) ?_
              show zT G _ _ _ [zR b, zI t, zI (zor v (1 * 2 ^ (m1 (b + 2) (59 + 5 * k + 0)).toNat)), zI (k + 1)] _ _ _ _ _ _ _
              refine zT.goto (tgt := 22) dX13_on_62 (by decide) ?_
              exact ih22 _ _ (by first | assumption | exact zq_i _ | exact zand_i _ _ | exact zor_i _ _ | exact zN _ | omega) (by first | assumption | exact zq_i _ | exact zand_i _ _ | exact zor_i _ _ | exact zN _ | omega) (by
                  unfold fOn at *
                  rw [zfd_s k0, ← hv]
                  first
                    | rw [zite_t (by omega), ge.1]
                    | rw [zite_f (by omega)]) (by omega)
    exact L22 _ _ _ (by first | assumption | exact zq_i _ | exact zand_i _ _ | exact zor_i _ _ | exact zN _ | omega) (by first | assumption | exact zq_i _ | exact zand_i _ _ | exact zor_i _ _ | exact zN _ | omega) (by rfl) (Nat.lt_succ_self _)
  · refine zT.iconst dX13_on_16 ?_
    refine zT.iret dX13_on_17 rfl ?_
    rw [eQ9]
    exact ⟨by rw [if_neg (by omega)], rfl, by rw [em1]⟩

theorem C_X13_forgotten {G : zG} {S : zS} {m : zMm} {b : Int} {A : zMm} (hb : zMod S b) (hA : yEq m b A) (hV : aVd A)  : zC G mX13_forgotten 3 0 0 [zR b] S m (zDet (some (zI (fForg (aK (A 0 1023) (A 2)) (A 2 58) (aGo (A 2) 58)))) S (zup m b 1000 0)) zNX := by
  have ym := hA.R hV
  have nm := ym.n
  have sm := ym.s
  have rm := ym.r
  have hk := hV.ki.1
  have hk0 := hk.1
  have hp0 := hV.pl.1
  have hp1 := hV.pl.2.1
  refine zC.of [zR b, zU] (by decide) rfl (zEn1 (zcR _) (zEn0 (by simp))) rfl ?_
  refine zT.rng hb.a1014 (fun zN => ?_)
  obtain ⟨Q9, eQ9⟩ : ∃ z : zQt, z = (zDet (some (zI (fForg (aK (A 0 1023) (A 2)) (A 2 58) (aGo (A 2) 58)))) S (zup m b 1000 0)) := ⟨_, rfl⟩
  rw [← eQ9]
  refine zT.aload_n 0 dX13_forgotten_0 rfl rfl ?_
  refine zT.iconst dX13_forgotten_1 ?_
  refine zT.putI dX13_forgotten_2 fX13_122 zs_1000 rfl (zMod.k hb) (j := 0) (by decide) rfl (by first | assumption | exact zq_i _ | exact zand_i _ _ | exact zor_i _ _ | exact zN _ | omega) ?_
  obtain ⟨m1, em1⟩ : ∃ z, z = zup m b 1000 0 := ⟨_, rfl⟩
  rw [← em1]
  have ym1 : yR m1 b A := by rw [em1]; exact ym.up (by omega)
  have nm1 := ym1.n
  have sm1 := ym1.s
  have rm1 := ym1.r
  refine zT.iconst dX13_forgotten_5 ?_
  refine zT.istore_n 1 dX13_forgotten_6 rfl (by decide) (zpre1 rfl (zcR _)) ?_
  show zT G _ _ _ [zR b, zI 0] _ _ _ _ _ _ _
  have L7 : ∀ (N : Nat) (i : Int), (0 ≤ i) → (i ≤ 2 * (aK (A 0 1023) (A 2)) 5) → (∀ j, 0 ≤ j → j < i → ¬ (0 < (aK (A 0 1023) (A 2)) (8 + 3 * (j / 2) + j % 2) - ahad (aGo (A 2) 58) (j / 2) (j % 2) (A 2 58))) → ((2 * (aK (A 0 1023) (A 2)) 5 - i).toNat) < N → zT G mX13_forgotten 3 7 [zR b, zI i] [] S m1 0 0 Q9 zNX := by
    intro N
    induction N with
    | zero => intro i i0 i1 hv hN; exact absurd hN (Nat.not_lt_zero _)
    | succ N ih7 =>
      intro i i0 i1 hv hN
      refine zT.iload_n 1 dX13_forgotten_7 rfl rfl ?_
      refine zT.iconst dX13_forgotten_8 ?_
      refine zT.aload_n 0 dX13_forgotten_9 rfl rfl ?_
      refine zT.callV (M' := mX13_slices) (b := b) [] [zI 2, zI i] dX13_forgotten_10 kX13_271 rfl rfl (ci := 10) (r := (RX13, TX13, 62)) rfl (zMod.k hb) (C_X13_slices hb) (by decide) (k' := 0) (n' := 0) (by omega) (by omega) (by simp only [List.map, zcI, zcJ, zcR, List.sum_cons, List.sum_nil]; decide) (zdk (v := some (zI (m1 (b + 2) (5)))) ?_) (fun _ _ _ _ h => h.elim)
      show zT G _ _ _ _ [zI (m1 (b + 2) (5)), zI 2, zI i] _ _ _ _ _ _
      refine zT.imul dX13_forgotten_13 ?_
      refine zT.ic_ge (tgt := 38) dX13_forgotten_14 (by decide) (by first | assumption | exact zq_i _ | exact zand_i _ _ | exact zor_i _ _ | exact zN _ | omega) (by first | assumption | exact zq_i _ | exact zand_i _ _ | exact zor_i _ _ | exact zN _ | omega) (fun c14 => ?_) (fun c14 => ?_)
      · refine zT.iconst dX13_forgotten_38 ?_
        refine zT.iret dX13_forgotten_39 rfl ?_
        rw [eQ9]
        exact ⟨by unfold fForg; rw [zfi_f (fun j a b => hv j a (by omega))], rfl, by rw [em1]⟩
      · refine zT.aload_n 0 dX13_forgotten_17 rfl rfl ?_
        refine zT.iload_n 1 dX13_forgotten_18 rfl rfl ?_
        refine zT.iconst dX13_forgotten_19 ?_
        refine zT.idiv dX13_forgotten_20 (by first | assumption | exact zq_i _ | exact zand_i _ _ | exact zor_i _ _ | exact zN _ | omega) (by first | assumption | exact zq_i _ | exact zand_i _ _ | exact zor_i _ _ | exact zN _ | omega) (by first | assumption | exact zq_i _ | exact zand_i _ _ | exact zor_i _ _ | exact zN _ | omega) (by first | assumption | exact zq_i _ | exact zand_i _ _ | exact zor_i _ _ | exact zN _ | omega) ?_
        refine zT.iload_n 1 dX13_forgotten_21 rfl rfl ?_
        refine zT.iconst dX13_forgotten_22 ?_
        refine zT.irem dX13_forgotten_23 (by first | assumption | exact zq_i _ | exact zand_i _ _ | exact zor_i _ _ | exact zN _ | omega) (by first | assumption | exact zq_i _ | exact zand_i _ _ | exact zor_i _ _ | exact zN _ | omega) (by first | assumption | exact zq_i _ | exact zand_i _ _ | exact zor_i _ _ | exact zN _ | omega) (by first | assumption | exact zq_i _ | exact zand_i _ _ | exact zor_i _ _ | exact zN _ | omega) ?_
        refine zT.callV (M' := mX13_leftOf) (b := b) [zI (i / 2), zI (i % 2)] [] dX13_forgotten_24 kX13_315 rfl rfl (ci := 10) (r := (RX13, TX13, 62)) rfl (zMod.k hb) (C_X13_leftOf hb (by first | assumption | exact zq_i _ | exact zand_i _ _ | exact zor_i _ _ | exact zN _ | omega) (by first | assumption | exact zq_i _ | exact zand_i _ _ | exact zor_i _ _ | exact zN _ | omega) (by first | assumption | exact zq_i _ | exact zand_i _ _ | exact zor_i _ _ | exact zN _ | omega)) (by decide) (k' := 0) (n' := 0) (by omega) (by omega) (by decide) (zdk (v := some (zI (m1 (b + 2) (8 + 3 * (i / 2) + (i % 2)) - yhad m1 b (i / 2) (i % 2) (m1 (b + 2) 58)))) ?_) (fun _ _ _ _ h => h.elim)
        show zT G _ _ _ _ [zI (m1 (b + 2) (8 + 3 * (i / 2) + (i % 2)) - yhad m1 b (i / 2) (i % 2) (m1 (b + 2) 58))] _ _ _ _ _ _
        have hmi := ym1.k (8 + 3 * (i / 2) + i % 2) (by omega) (by omega)
        have hza := yhad_a (s := i / 2) (c := i % 2) ym1.g (Int.le_refl _)
        have hza2 : yhad m1 b (i / 2) (i % 2) (m1 (b + 2) 58) = ahad (aGo (A 2) 58) (i / 2) (i % 2) (A 2 58) := by
          rw [nm1]
          exact hza
        have hzb := ahad_b (s := i / 2) (c := i % 2) hV.pl (by omega) (Int.le_refl _)
        have hkv := hk.2.1 (i / 2) (by omega) (by omega)
        have hkc : 0 ≤ aK (A 0 1023) (A 2) (8 + 3 * (i / 2) + i % 2) ∧ aK (A 0 1023) (A 2) (8 + 3 * (i / 2) + i % 2) ≤ 20 := by
          rcases Int.emod_two_eq i with e | e
          · rw [e]
            omega
          · rw [e]
            omega
        refine zT.if_le (tgt := 32) dX13_forgotten_27 (by decide) (by first | assumption | exact zq_i _ | exact zand_i _ _ | exact zor_i _ _ | exact zN _ | omega) (fun c27 => ?_) (fun c27 => ?_)
        · refine zT.iinc 1 dX13_forgotten_32 rfl (by decide) (zpre1 rfl (zcR _)) ?_
          show zT G _ _ _ [zR b, zI (i + 1)] _ _ _ _ _ _ _
          refine zT.goto (tgt := 7) dX13_forgotten_35 (by decide) ?_
          exact ih7 _ (by first | assumption | exact zq_i _ | exact zand_i _ _ | exact zor_i _ _ | exact zN _ | omega) (by first | assumption | exact zq_i _ | exact zand_i _ _ | exact zor_i _ _ | exact zN _ | omega) (by exact zal_s hv (by omega)) (by omega)
        · refine zT.iload_n 1 dX13_forgotten_30 rfl rfl ?_
          refine zT.iret dX13_forgotten_31 rfl ?_
          rw [eQ9]
          exact ⟨by unfold fForg; rw [zfi_t hv (by omega) (by omega) (by omega)], rfl, by rw [em1]⟩
  exact L7 _ _ (by first | assumption | exact zq_i _ | exact zand_i _ _ | exact zor_i _ _ | exact zN _ | omega) (by first | assumption | exact zq_i _ | exact zand_i _ _ | exact zor_i _ _ | exact zN _ | omega) (by exact zal_0) (Nat.lt_succ_self _)

theorem C_X13_byteAt {G : zG} {S : zS} {m : zMm} {b : Int} {A : zMm} (hb : zMod S b) (hA : yEq m b A) (hV : aVd A) {i : Int} (hi : zi i) : zC G mX13_byteAt 0 0 0 [zR b, zI i] S m (zDet (some (zI (if 0 ≤ i ∧ i < A 0 1029 then A 11 i else -1))) S (zup m b 1000 0)) zNX := by
  have ym := hA.R hV
  have nm := ym.n
  have sm := ym.s
  have rm := ym.r
  have hk := hV.ki.1
  have hk0 := hk.1
  have hp0 := hV.pl.1
  have hp1 := hV.pl.2.1
  have q0 := hA 0 1029 (by omega) (by omega)
  rw [Int.add_zero] at q0
  have hvt := hV.tx
  have hvu := hvt.1
  refine zC.of [zR b, zI i] (by decide) rfl (zEn1 (zcR _) (zEn1 (zcI _) (zEn0 (by simp)))) rfl ?_
  refine zT.rng hb.a1014 (fun zN => ?_)
  obtain ⟨Q9, eQ9⟩ : ∃ z : zQt, z = (zDet (some (zI (if 0 ≤ i ∧ i < A 0 1029 then A 11 i else -1))) S (zup m b 1000 0)) := ⟨_, rfl⟩
  rw [← eQ9]
  refine zT.aload_n 0 dX13_byteAt_0 rfl rfl ?_
  refine zT.iconst dX13_byteAt_1 ?_
  refine zT.putI dX13_byteAt_2 fX13_122 zs_1000 rfl (zMod.k hb) (j := 0) (by decide) rfl (by first | assumption | exact zq_i _ | exact zand_i _ _ | exact zor_i _ _ | exact zN _ | omega) ?_
  obtain ⟨m1, em1⟩ : ∃ z, z = zup m b 1000 0 := ⟨_, rfl⟩
  rw [← em1]
  have ym1 : yR m1 b A := by rw [em1]; exact ym.up (by omega)
  have nm1 := ym1.n
  have sm1 := ym1.s
  have rm1 := ym1.r
  refine zT.iload_n 1 dX13_byteAt_5 rfl rfl ?_
  refine zT.if_lt (tgt := 26) dX13_byteAt_6 (by decide) (by first | assumption | exact zq_i _ | exact zand_i _ _ | exact zor_i _ _ | exact zN _ | omega) (fun c6 => ?_) (fun c6 => ?_)
  · refine zT.iconst dX13_byteAt_26 ?_
    refine zT.iret dX13_byteAt_27 rfl ?_
    rw [eQ9]
    refine ⟨?_, rfl, by rw [em1]⟩
    first
      | rw [if_neg (by omega)]
      | rw [if_pos (by omega), ← hA 11 i (by omega) (by omega)]
  · refine zT.iload_n 1 dX13_byteAt_9 rfl rfl ?_
    refine zT.aload_n 0 dX13_byteAt_10 rfl rfl ?_
    refine zT.getI dX13_byteAt_11 fX13_327 rfl (zMod.k hb) (j := 29) (by decide) rfl (fun z11 => ?_)
    have r11 : m1 b 1029 = m b 1029 := by rw [em1, zup_ne (by omega)]
    rw [r11] at z11 ⊢
    refine zT.ic_ge (tgt := 26) dX13_byteAt_14 (by decide) (by first | assumption | exact zq_i _ | exact zand_i _ _ | exact zor_i _ _ | exact zN _ | omega) (by first | assumption | exact zq_i _ | exact zand_i _ _ | exact zor_i _ _ | exact zN _ | omega) (fun c14 => ?_) (fun c14 => ?_)
    · refine zT.iconst dX13_byteAt_26 ?_
      refine zT.iret dX13_byteAt_27 rfl ?_
      rw [eQ9]
      refine ⟨?_, rfl, by rw [em1]⟩
      first
        | rw [if_neg (by omega)]
        | rw [if_pos (by omega), ← hA 11 i (by omega) (by omega)]
    · refine zT.aload_n 0 dX13_byteAt_17 rfl rfl ?_
      refine zT.getF dX13_byteAt_18 fX13_46 rfl (zMod.k hb) (j := 27) (by decide) rfl (zMod.f1027 hb) ?_
      refine zT.iload_n 1 dX13_byteAt_21 rfl rfl ?_
      refine zT.iald dX13_byteAt_22 (zMod.a1027 hb) (by first | assumption | exact zq_i _ | exact zand_i _ _ | exact zor_i _ _ | exact zN _ | omega) (by rw [(zMod.n1027 hb)]; first | assumption | exact zq_i _ | exact zand_i _ _ | exact zor_i _ _ | exact zN _ | omega) (fun z22 => ?_)
      have r22 : m1 (b + 11) i = m (b + 11) i := by rw [em1, zup_ne (by omega)]
      rw [r22] at z22 ⊢
      refine zT.goto (tgt := 27) dX13_byteAt_23 (by decide) ?_
      refine zT.iret dX13_byteAt_27 rfl ?_
      rw [eQ9]
      refine ⟨?_, rfl, by rw [em1]⟩
      first
        | rw [if_neg (by omega)]
        | rw [if_pos (by omega), ← hA 11 i (by omega) (by omega)]

theorem C_X13_servedAt {G : zG} {S : zS} {m : zMm} {b : Int} {A : zMm} (hb : zMod S b) (hA : yEq m b A) (hV : aVd A) {i : Int} (hi : zi i) : zC G mX13_servedAt 0 0 0 [zR b, zI i] S m (zDet (some (zI (if 0 ≤ i ∧ i < A 0 1049 then A 29 i else -1))) S (zup m b 1000 0)) zNX := by
  have ym := hA.R hV
  have nm := ym.n
  have sm := ym.s
  have rm := ym.r
  have hk := hV.ki.1
  have hk0 := hk.1
  have hp0 := hV.pl.1
  have hp1 := hV.pl.2.1
  have q0 := hA 0 1049 (by omega) (by omega)
  rw [Int.add_zero] at q0
  have hvt := hV.sv
  unfold vSv at hvt
  refine zC.of [zR b, zI i] (by decide) rfl (zEn1 (zcR _) (zEn1 (zcI _) (zEn0 (by simp)))) rfl ?_
  refine zT.rng hb.a1014 (fun zN => ?_)
  obtain ⟨Q9, eQ9⟩ : ∃ z : zQt, z = (zDet (some (zI (if 0 ≤ i ∧ i < A 0 1049 then A 29 i else -1))) S (zup m b 1000 0)) := ⟨_, rfl⟩
  rw [← eQ9]
  refine zT.aload_n 0 dX13_servedAt_0 rfl rfl ?_
  refine zT.iconst dX13_servedAt_1 ?_
  refine zT.putI dX13_servedAt_2 fX13_122 zs_1000 rfl (zMod.k hb) (j := 0) (by decide) rfl (by first | assumption | exact zq_i _ | exact zand_i _ _ | exact zor_i _ _ | exact zN _ | omega) ?_
  obtain ⟨m1, em1⟩ : ∃ z, z = zup m b 1000 0 := ⟨_, rfl⟩
  rw [← em1]
  have ym1 : yR m1 b A := by rw [em1]; exact ym.up (by omega)
  have nm1 := ym1.n
  have sm1 := ym1.s
  have rm1 := ym1.r
  refine zT.iload_n 1 dX13_servedAt_5 rfl rfl ?_
  refine zT.if_lt (tgt := 26) dX13_servedAt_6 (by decide) (by first | assumption | exact zq_i _ | exact zand_i _ _ | exact zor_i _ _ | exact zN _ | omega) (fun c6 => ?_) (fun c6 => ?_)
  · refine zT.iconst dX13_servedAt_26 ?_
    refine zT.iret dX13_servedAt_27 rfl ?_
    rw [eQ9]
    refine ⟨?_, rfl, by rw [em1]⟩
    first
      | rw [if_neg (by omega)]
      | rw [if_pos (by omega), ← hA 29 i (by omega) (by omega)]
  · refine zT.iload_n 1 dX13_servedAt_9 rfl rfl ?_
    refine zT.aload_n 0 dX13_servedAt_10 rfl rfl ?_
    refine zT.getI dX13_servedAt_11 fX13_419 rfl (zMod.k hb) (j := 49) (by decide) rfl (fun z11 => ?_)
    have r11 : m1 b 1049 = m b 1049 := by rw [em1, zup_ne (by omega)]
    rw [r11] at z11 ⊢
    refine zT.ic_ge (tgt := 26) dX13_servedAt_14 (by decide) (by first | assumption | exact zq_i _ | exact zand_i _ _ | exact zor_i _ _ | exact zN _ | omega) (by first | assumption | exact zq_i _ | exact zand_i _ _ | exact zor_i _ _ | exact zN _ | omega) (fun c14 => ?_) (fun c14 => ?_)
    · refine zT.iconst dX13_servedAt_26 ?_
      refine zT.iret dX13_servedAt_27 rfl ?_
      rw [eQ9]
      refine ⟨?_, rfl, by rw [em1]⟩
      first
        | rw [if_neg (by omega)]
        | rw [if_pos (by omega), ← hA 29 i (by omega) (by omega)]
    · refine zT.aload_n 0 dX13_servedAt_17 rfl rfl ?_
      refine zT.getF dX13_servedAt_18 fX13_101 rfl (zMod.k hb) (j := 48) (by decide) rfl (zMod.f1048 hb) ?_
      refine zT.iload_n 1 dX13_servedAt_21 rfl rfl ?_
      refine zT.iald dX13_servedAt_22 (zMod.a1048 hb) (by first | assumption | exact zq_i _ | exact zand_i _ _ | exact zor_i _ _ | exact zN _ | omega) (by rw [(zMod.n1048 hb)]; first | assumption | exact zq_i _ | exact zand_i _ _ | exact zor_i _ _ | exact zN _ | omega) (fun z22 => ?_)
      have r22 : m1 (b + 29) i = m (b + 29) i := by rw [em1, zup_ne (by omega)]
      rw [r22] at z22 ⊢
      refine zT.goto (tgt := 27) dX13_servedAt_23 (by decide) ?_
      refine zT.iret dX13_servedAt_27 rfl ?_
      rw [eQ9]
      refine ⟨?_, rfl, by rw [em1]⟩
      first
        | rw [if_neg (by omega)]
        | rw [if_pos (by omega), ← hA 29 i (by omega) (by omega)]

theorem C_X13_pans {G : zG} {S : zS} {m : zMm} {b : Int} {A : zMm} (hb : zMod S b) (hA : yEq m b A) (hV : aVd A) {i : Int} (hi : zi i) : zC G mX13_pans 0 0 0 [zR b, zI i] S m (zDet (some (zI (if 0 ≤ i ∧ i < A 0 1053 then A 32 i else -1))) S (zup m b 1000 0)) zNX := by
  have ym := hA.R hV
  have nm := ym.n
  have sm := ym.s
  have rm := ym.r
  have hk := hV.ki.1
  have hk0 := hk.1
  have hp0 := hV.pl.1
  have hp1 := hV.pl.2.1
  have q0 := hA 0 1053 (by omega) (by omega)
  rw [Int.add_zero] at q0
  have hvt := hV.pn
  unfold vPn at hvt
  refine zC.of [zR b, zI i] (by decide) rfl (zEn1 (zcR _) (zEn1 (zcI _) (zEn0 (by simp)))) rfl ?_
  refine zT.rng hb.a1014 (fun zN => ?_)
  obtain ⟨Q9, eQ9⟩ : ∃ z : zQt, z = (zDet (some (zI (if 0 ≤ i ∧ i < A 0 1053 then A 32 i else -1))) S (zup m b 1000 0)) := ⟨_, rfl⟩
  rw [← eQ9]
  refine zT.aload_n 0 dX13_pans_0 rfl rfl ?_
  refine zT.iconst dX13_pans_1 ?_
  refine zT.putI dX13_pans_2 fX13_122 zs_1000 rfl (zMod.k hb) (j := 0) (by decide) rfl (by first | assumption | exact zq_i _ | exact zand_i _ _ | exact zor_i _ _ | exact zN _ | omega) ?_
  obtain ⟨m1, em1⟩ : ∃ z, z = zup m b 1000 0 := ⟨_, rfl⟩
  rw [← em1]
  have ym1 : yR m1 b A := by rw [em1]; exact ym.up (by omega)
  have nm1 := ym1.n
  have sm1 := ym1.s
  have rm1 := ym1.r
  refine zT.iload_n 1 dX13_pans_5 rfl rfl ?_
  refine zT.if_lt (tgt := 26) dX13_pans_6 (by decide) (by first | assumption | exact zq_i _ | exact zand_i _ _ | exact zor_i _ _ | exact zN _ | omega) (fun c6 => ?_) (fun c6 => ?_)
  · refine zT.iconst dX13_pans_26 ?_
    refine zT.iret dX13_pans_27 rfl ?_
    rw [eQ9]
    refine ⟨?_, rfl, by rw [em1]⟩
    first
      | rw [if_neg (by omega)]
      | rw [if_pos (by omega), ← hA 32 i (by omega) (by omega)]
  · refine zT.iload_n 1 dX13_pans_9 rfl rfl ?_
    refine zT.aload_n 0 dX13_pans_10 rfl rfl ?_
    refine zT.getI dX13_pans_11 fX13_431 rfl (zMod.k hb) (j := 53) (by decide) rfl (fun z11 => ?_)
    have r11 : m1 b 1053 = m b 1053 := by rw [em1, zup_ne (by omega)]
    rw [r11] at z11 ⊢
    refine zT.ic_ge (tgt := 26) dX13_pans_14 (by decide) (by first | assumption | exact zq_i _ | exact zand_i _ _ | exact zor_i _ _ | exact zN _ | omega) (by first | assumption | exact zq_i _ | exact zand_i _ _ | exact zor_i _ _ | exact zN _ | omega) (fun c14 => ?_) (fun c14 => ?_)
    · refine zT.iconst dX13_pans_26 ?_
      refine zT.iret dX13_pans_27 rfl ?_
      rw [eQ9]
      refine ⟨?_, rfl, by rw [em1]⟩
      first
        | rw [if_neg (by omega)]
        | rw [if_pos (by omega), ← hA 32 i (by omega) (by omega)]
    · refine zT.aload_n 0 dX13_pans_17 rfl rfl ?_
      refine zT.getF dX13_pans_18 fX13_110 rfl (zMod.k hb) (j := 52) (by decide) rfl (zMod.f1052 hb) ?_
      refine zT.iload_n 1 dX13_pans_21 rfl rfl ?_
      refine zT.iald dX13_pans_22 (zMod.a1052 hb) (by first | assumption | exact zq_i _ | exact zand_i _ _ | exact zor_i _ _ | exact zN _ | omega) (by rw [(zMod.n1052 hb)]; first | assumption | exact zq_i _ | exact zand_i _ _ | exact zor_i _ _ | exact zN _ | omega) (fun z22 => ?_)
      have r22 : m1 (b + 32) i = m (b + 32) i := by rw [em1, zup_ne (by omega)]
      rw [r22] at z22 ⊢
      refine zT.goto (tgt := 27) dX13_pans_23 (by decide) ?_
      refine zT.iret dX13_pans_27 rfl ?_
      rw [eQ9]
      refine ⟨?_, rfl, by rw [em1]⟩
      first
        | rw [if_neg (by omega)]
        | rw [if_pos (by omega), ← hA 32 i (by omega) (by omega)]

theorem C_X13_count {G : zG} {S : zS} {m : zMm} {b : Int} {A : zMm} (hb : zMod S b) (hA : yEq m b A) (hV : aVd A) {w : Int} (hw : zi w) : zC G mX13_count 2 0 0 [zR b, zI w] S m (zDet (some (zI (if 0 ≤ w ∧ w ≤ 2 then (aK (A 0 1023) (A 2)) w else if 3 ≤ w ∧ w ≤ 5 then (aK (A 0 1023) (A 2)) (w + 2) else if w = 6 then A 2 58 else if w = 7 then A 0 1002 else -1))) S (ylaid (zup m b 1000 0) b)) zNX := by
  have ym := hA.R hV
  have nm := ym.n
  have sm := ym.s
  have rm := ym.r
  have hk := hV.ki.1
  have hk0 := hk.1
  have hp0 := hV.pl.1
  have hp1 := hV.pl.2.1
  have q0 := hA 0 1002 (by omega) (by omega)
  rw [Int.add_zero] at q0
  have hvt := hV.tp.1
  refine zC.of [zR b, zI w] (by decide) rfl (zEn1 (zcR _) (zEn1 (zcI _) (zEn0 (by simp)))) rfl ?_
  refine zT.rng hb.a1014 (fun zN => ?_)
  obtain ⟨Q9, eQ9⟩ : ∃ z : zQt, z = (zDet (some (zI (if 0 ≤ w ∧ w ≤ 2 then (aK (A 0 1023) (A 2)) w else if 3 ≤ w ∧ w ≤ 5 then (aK (A 0 1023) (A 2)) (w + 2) else if w = 6 then A 2 58 else if w = 7 then A 0 1002 else -1))) S (ylaid (zup m b 1000 0) b)) := ⟨_, rfl⟩
  rw [← eQ9]
  refine zT.aload_n 0 dX13_count_0 rfl rfl ?_
  refine zT.iconst dX13_count_1 ?_
  refine zT.putI dX13_count_2 fX13_122 zs_1000 rfl (zMod.k hb) (j := 0) (by decide) rfl (by first | assumption | exact zq_i _ | exact zand_i _ _ | exact zor_i _ _ | exact zN _ | omega) ?_
  obtain ⟨m1, em1⟩ : ∃ z, z = zup m b 1000 0 := ⟨_, rfl⟩
  rw [← em1]
  have ym1 : yR m1 b A := by rw [em1]; exact ym.up (by omega)
  have nm1 := ym1.n
  have sm1 := ym1.s
  have rm1 := ym1.r
  refine zT.aload_n 0 dX13_count_5 rfl rfl ?_
  refine zT.callV (M' := mX13_lay) (b := b) [] [] dX13_count_6 kX13_202 rfl rfl (ci := 10) (r := (RX13, TX13, 62)) rfl (zMod.k hb) (C_X13_lay hb) (by decide) (k' := 0) (n' := 0) (by omega) (by omega) (by decide) (zdk (v := none) ?_) (fun _ _ _ _ h => h.elim)
  show zT G _ _ _ _ [] _ _ _ _ _ _
  obtain ⟨m2, em2⟩ : ∃ z, z = ylaid m1 b := ⟨_, rfl⟩
  rw [← em2]
  have ym2 : yL m2 b A := by rw [em2]; exact hA.L2 hV (fun j => by rw [em1, zup_ne (by omega)]) (by rw [em1, zup_ne (by omega)])
  have nm2 := ym2.1.n
  have sm2 := ym2.1.s
  have rm2 := ym2.1.r
  have g0 := ym2.2 0 (by omega) (by omega)
  have g1 := ym2.2 1 (by omega) (by omega)
  have g2 := ym2.2 2 (by omega) (by omega)
  have g5 := ym2.2 5 (by omega) (by omega)
  have g6 := ym2.2 6 (by omega) (by omega)
  have g7 := ym2.2 7 (by omega) (by omega)
  refine zT.iload_n 1 dX13_count_9 rfl rfl ?_
  refine zT.tsw (td := 108) [56, 63, 70, 77, 82, 90, 98, 103] dX13_count_10 (by first | assumption | exact zq_i _ | exact zand_i _ _ | exact zor_i _ _ | exact zN _ | omega) rfl (by decide) (fun c10 => ?_) ⟨by decide, fun c10 => ?_, by decide, fun c10 => ?_, by decide, fun c10 => ?_, by decide, fun c10 => ?_, by decide, fun c10 => ?_, by decide, fun c10 => ?_, by decide, fun c10 => ?_, by decide, fun c10 => ?_, trivial⟩
  · refine zT.iconst dX13_count_108 ?_
    refine zT.iret dX13_count_109 rfl ?_
    rw [eQ9]
    refine ⟨?_, rfl, by rw [em2, em1]⟩
    congr 2
    rcases (show w = 0 ∨ w = 1 ∨ w = 2 ∨ w = 3 ∨ w = 4 ∨ w = 5 ∨ w = 6 ∨ w = 7 ∨ w < 0 ∨ 7 < w by omega) with rfl | rfl | rfl | rfl | rfl | rfl | rfl | rfl | h9 | h9
    all_goals first
      | (exfalso; omega)
      | (simp (disch := omega) only [if_pos, if_neg]; first | done | assumption | omega | exact g5 | exact g6 | exact g7)
      | (rw [if_neg (by omega), if_neg (by omega), if_neg (by omega), if_neg (by omega)])
  · refine zT.aload_n 0 dX13_count_56 rfl rfl ?_
    refine zT.getF dX13_count_57 fX13_13 rfl (zMod.k hb) (j := 14) (by decide) rfl (zMod.f1014 hb) ?_
    refine zT.iconst dX13_count_60 ?_
    refine zT.iald dX13_count_61 (zMod.a1014 hb) (by first | assumption | exact zq_i _ | exact zand_i _ _ | exact zor_i _ _ | exact zN _ | omega) (by rw [(zMod.n1014 hb)]; first | assumption | exact zq_i _ | exact zand_i _ _ | exact zor_i _ _ | exact zN _ | omega) (fun z61 => ?_)
    refine zT.iret dX13_count_62 rfl ?_
    rw [eQ9]
    refine ⟨?_, rfl, by rw [em2, em1]⟩
    congr 2
    rcases (show w = 0 ∨ w = 1 ∨ w = 2 ∨ w = 3 ∨ w = 4 ∨ w = 5 ∨ w = 6 ∨ w = 7 ∨ w < 0 ∨ 7 < w by omega) with rfl | rfl | rfl | rfl | rfl | rfl | rfl | rfl | h9 | h9
    all_goals first
      | (exfalso; omega)
      | (simp (disch := omega) only [if_pos, if_neg]; first | done | assumption | omega | exact g5 | exact g6 | exact g7)
      | (rw [if_neg (by omega), if_neg (by omega), if_neg (by omega), if_neg (by omega)])
  · refine zT.aload_n 0 dX13_count_63 rfl rfl ?_
    refine zT.getF dX13_count_64 fX13_13 rfl (zMod.k hb) (j := 14) (by decide) rfl (zMod.f1014 hb) ?_
    refine zT.iconst dX13_count_67 ?_
    refine zT.iald dX13_count_68 (zMod.a1014 hb) (by first | assumption | exact zq_i _ | exact zand_i _ _ | exact zor_i _ _ | exact zN _ | omega) (by rw [(zMod.n1014 hb)]; first | assumption | exact zq_i _ | exact zand_i _ _ | exact zor_i _ _ | exact zN _ | omega) (fun z68 => ?_)
    refine zT.iret dX13_count_69 rfl ?_
    rw [eQ9]
    refine ⟨?_, rfl, by rw [em2, em1]⟩
    congr 2
    rcases (show w = 0 ∨ w = 1 ∨ w = 2 ∨ w = 3 ∨ w = 4 ∨ w = 5 ∨ w = 6 ∨ w = 7 ∨ w < 0 ∨ 7 < w by omega) with rfl | rfl | rfl | rfl | rfl | rfl | rfl | rfl | h9 | h9
    all_goals first
      | (exfalso; omega)
      | (simp (disch := omega) only [if_pos, if_neg]; first | done | assumption | omega | exact g5 | exact g6 | exact g7)
      | (rw [if_neg (by omega), if_neg (by omega), if_neg (by omega), if_neg (by omega)])
  · refine zT.aload_n 0 dX13_count_70 rfl rfl ?_
    refine zT.getF dX13_count_71 fX13_13 rfl (zMod.k hb) (j := 14) (by decide) rfl (zMod.f1014 hb) ?_
    refine zT.iconst dX13_count_74 ?_
    refine zT.iald dX13_count_75 (zMod.a1014 hb) (by first | assumption | exact zq_i _ | exact zand_i _ _ | exact zor_i _ _ | exact zN _ | omega) (by rw [(zMod.n1014 hb)]; first | assumption | exact zq_i _ | exact zand_i _ _ | exact zor_i _ _ | exact zN _ | omega) (fun z75 => ?_)
    refine zT.iret dX13_count_76 rfl ?_
    rw [eQ9]
    refine ⟨?_, rfl, by rw [em2, em1]⟩
    congr 2
    rcases (show w = 0 ∨ w = 1 ∨ w = 2 ∨ w = 3 ∨ w = 4 ∨ w = 5 ∨ w = 6 ∨ w = 7 ∨ w < 0 ∨ 7 < w by omega) with rfl | rfl | rfl | rfl | rfl | rfl | rfl | rfl | h9 | h9
    all_goals first
      | (exfalso; omega)
      | (simp (disch := omega) only [if_pos, if_neg]; first | done | assumption | omega | exact g5 | exact g6 | exact g7)
      | (rw [if_neg (by omega), if_neg (by omega), if_neg (by omega), if_neg (by omega)])
  · refine zT.aload_n 0 dX13_count_77 rfl rfl ?_
    refine zT.callV (M' := mX13_slices) (b := b) [] [] dX13_count_78 kX13_271 rfl rfl (ci := 10) (r := (RX13, TX13, 62)) rfl (zMod.k hb) (C_X13_slices hb) (by decide) (k' := 0) (n' := 0) (by omega) (by omega) (by decide) (zdk (v := some (zI (m2 (b + 2) (5)))) ?_) (fun _ _ _ _ h => h.elim)
    show zT G _ _ _ _ [zI (m2 (b + 2) (5))] _ _ _ _ _ _
    refine zT.iret dX13_count_81 rfl ?_
    rw [eQ9]
    refine ⟨?_, rfl, by rw [em2, em1]⟩
    congr 2
    rcases (show w = 0 ∨ w = 1 ∨ w = 2 ∨ w = 3 ∨ w = 4 ∨ w = 5 ∨ w = 6 ∨ w = 7 ∨ w < 0 ∨ 7 < w by omega) with rfl | rfl | rfl | rfl | rfl | rfl | rfl | rfl | h9 | h9
    all_goals first
      | (exfalso; omega)
      | (simp (disch := omega) only [if_pos, if_neg]; first | done | assumption | omega | exact g5 | exact g6 | exact g7)
      | (rw [if_neg (by omega), if_neg (by omega), if_neg (by omega), if_neg (by omega)])
  · refine zT.aload_n 0 dX13_count_82 rfl rfl ?_
    refine zT.getF dX13_count_83 fX13_13 rfl (zMod.k hb) (j := 14) (by decide) rfl (zMod.f1014 hb) ?_
    refine zT.bipush dX13_count_86 ?_
    refine zT.iald dX13_count_88 (zMod.a1014 hb) (by first | assumption | exact zq_i _ | exact zand_i _ _ | exact zor_i _ _ | exact zN _ | omega) (by rw [(zMod.n1014 hb)]; first | assumption | exact zq_i _ | exact zand_i _ _ | exact zor_i _ _ | exact zN _ | omega) (fun z88 => ?_)
    refine zT.iret dX13_count_89 rfl ?_
    rw [eQ9]
    refine ⟨?_, rfl, by rw [em2, em1]⟩
    congr 2
    rcases (show w = 0 ∨ w = 1 ∨ w = 2 ∨ w = 3 ∨ w = 4 ∨ w = 5 ∨ w = 6 ∨ w = 7 ∨ w < 0 ∨ 7 < w by omega) with rfl | rfl | rfl | rfl | rfl | rfl | rfl | rfl | h9 | h9
    all_goals first
      | (exfalso; omega)
      | (simp (disch := omega) only [if_pos, if_neg]; first | done | assumption | omega | exact g5 | exact g6 | exact g7)
      | (rw [if_neg (by omega), if_neg (by omega), if_neg (by omega), if_neg (by omega)])
  · refine zT.aload_n 0 dX13_count_90 rfl rfl ?_
    refine zT.getF dX13_count_91 fX13_13 rfl (zMod.k hb) (j := 14) (by decide) rfl (zMod.f1014 hb) ?_
    refine zT.bipush dX13_count_94 ?_
    refine zT.iald dX13_count_96 (zMod.a1014 hb) (by first | assumption | exact zq_i _ | exact zand_i _ _ | exact zor_i _ _ | exact zN _ | omega) (by rw [(zMod.n1014 hb)]; first | assumption | exact zq_i _ | exact zand_i _ _ | exact zor_i _ _ | exact zN _ | omega) (fun z96 => ?_)
    refine zT.iret dX13_count_97 rfl ?_
    rw [eQ9]
    refine ⟨?_, rfl, by rw [em2, em1]⟩
    congr 2
    rcases (show w = 0 ∨ w = 1 ∨ w = 2 ∨ w = 3 ∨ w = 4 ∨ w = 5 ∨ w = 6 ∨ w = 7 ∨ w < 0 ∨ 7 < w by omega) with rfl | rfl | rfl | rfl | rfl | rfl | rfl | rfl | h9 | h9
    all_goals first
      | (exfalso; omega)
      | (simp (disch := omega) only [if_pos, if_neg]; first | done | assumption | omega | exact g5 | exact g6 | exact g7)
      | (rw [if_neg (by omega), if_neg (by omega), if_neg (by omega), if_neg (by omega)])
  · refine zT.aload_n 0 dX13_count_98 rfl rfl ?_
    refine zT.callV (M' := mX13_goes) (b := b) [] [] dX13_count_99 kX13_284 rfl rfl (ci := 10) (r := (RX13, TX13, 62)) rfl (zMod.k hb) (C_X13_goes hb) (by decide) (k' := 0) (n' := 0) (by omega) (by omega) (by decide) (zdk (v := some (zI (m2 (b + 2) (58)))) ?_) (fun _ _ _ _ h => h.elim)
    show zT G _ _ _ _ [zI (m2 (b + 2) (58))] _ _ _ _ _ _
    refine zT.iret dX13_count_102 rfl ?_
    rw [eQ9]
    refine ⟨?_, rfl, by rw [em2, em1]⟩
    congr 2
    rcases (show w = 0 ∨ w = 1 ∨ w = 2 ∨ w = 3 ∨ w = 4 ∨ w = 5 ∨ w = 6 ∨ w = 7 ∨ w < 0 ∨ 7 < w by omega) with rfl | rfl | rfl | rfl | rfl | rfl | rfl | rfl | h9 | h9
    all_goals first
      | (exfalso; omega)
      | (simp (disch := omega) only [if_pos, if_neg]; first | done | assumption | omega | exact g5 | exact g6 | exact g7)
      | (rw [if_neg (by omega), if_neg (by omega), if_neg (by omega), if_neg (by omega)])
  · refine zT.aload_n 0 dX13_count_103 rfl rfl ?_
    refine zT.getI dX13_count_104 fX13_125 rfl (zMod.k hb) (j := 2) (by decide) rfl (fun z104 => ?_)
    have r104 : m2 b 1002 = m b 1002 := by rw [em2, ylaid_f (by decide), em1, zup_ne (by omega)]
    rw [r104] at z104 ⊢
    refine zT.iret dX13_count_107 rfl ?_
    rw [eQ9]
    refine ⟨?_, rfl, by rw [em2, em1]⟩
    congr 2
    rcases (show w = 0 ∨ w = 1 ∨ w = 2 ∨ w = 3 ∨ w = 4 ∨ w = 5 ∨ w = 6 ∨ w = 7 ∨ w < 0 ∨ 7 < w by omega) with rfl | rfl | rfl | rfl | rfl | rfl | rfl | rfl | h9 | h9
    all_goals first
      | (exfalso; omega)
      | (simp (disch := omega) only [if_pos, if_neg]; first | done | assumption | omega | exact g5 | exact g6 | exact g7)
      | (rw [if_neg (by omega), if_neg (by omega), if_neg (by omega), if_neg (by omega)])

def ysum (m : zMm) (b : Int) : Int → Int := zs (fun s => m (b + 2) (8 + 3 * s + 0) + m (b + 2) (8 + 3 * s + 1))
def ylng (m : zMm) (b : Int) : Int → Int := zmx (fun s => m (b + 2) (8 + 3 * s + 0) + m (b + 2) (8 + 3 * s + 1))
theorem ysum_b {m : zMm} {b k : Int} (h : zRow m b) (h0 : 0 ≤ k) (hk : k ≤ m (b + 2) 5) : 0 ≤ ysum m b k ∧ ysum m b k ≤ k * 40 := zs_b h0 (fun j a q => by have := h.mi j 0 a (by omega) (by omega) (by omega); have := h.mi j 1 a (by omega) (by omega) (by omega); omega)
theorem ylng_b {m : zMm} {b k : Int} (h : zRow m b) (hk : k ≤ m (b + 2) 5) : 0 ≤ ylng m b k ∧ ylng m b k ≤ 40 := zmx_b (by omega) (fun j a q => by have := h.mi j 0 a (by omega) (by omega) (by omega); have := h.mi j 1 a (by omega) (by omega) (by omega); omega)
theorem ysum_a {m : zMm} {b k : Int} {A : zMm} (h : yR m b A) (hk : k ≤ 8) : ysum m b k = fAll (aK (A 0 1023) (A 2)) k := zs_c (fun j a q => by rw [h.k _ (by omega) (by omega), h.k _ (by omega) (by omega)])
theorem ylng_a {m : zMm} {b k : Int} {A : zMm} (h : yR m b A) (hk : k ≤ 8) : ylng m b k = fLng (aK (A 0 1023) (A 2)) k := zmx_c (fun j a q => by rw [h.k _ (by omega) (by omega), h.k _ (by omega) (by omega)])
theorem C_X13_allMinutes {G : zG} {S : zS} {m : zMm} {b : Int} (hb : zMod S b) (hr : zRow m b) : zC G mX13_allMinutes 2 0 0 [zR b] S m (zDet (some (zI (ysum m b (m (b + 2) 5)))) S m) zNX := by
  have hn := hr.nu
  refine zC.of [zR b, zU, zU] (by decide) rfl (zEn1 (zcR _) (zEn0 (by simp))) rfl ?_
  refine zT.iconst dX13_allMinutes_0 ?_
  refine zT.istore_n 1 dX13_allMinutes_1 rfl (by decide) (zpre1 rfl (zcR _)) ?_
  show zT G _ _ _ [zR b, zI 0, zU] _ _ _ _ _ _ _
  refine zT.iconst dX13_allMinutes_2 ?_
  refine zT.istore_n 2 dX13_allMinutes_3 rfl (by decide) (zpre1 rfl (zcI _)) ?_
  show zT G _ _ _ [zR b, zI 0, zI 0] _ _ _ _ _ _ _
  have L4 : ∀ (N : Nat) (s : Int) (v : Int), (0 ≤ s) → (s ≤ m (b + 2) 5) → (v = ysum m b s) → ((m (b + 2) 5 - s).toNat) < N → zT G mX13_allMinutes 2 4 [zR b, zI v, zI s] [] S m 0 0 (zDet (some (zI (ysum m b (m (b + 2) 5)))) S m) zNX := by
    intro N
    induction N with
    | zero => intro s v s0 s1 hv hN; exact absurd hN (Nat.not_lt_zero _)
    | succ N ih4 =>
      intro s v s0 s1 hv hN
      refine zT.iload_n 2 dX13_allMinutes_4 rfl rfl ?_
      refine zT.aload_n 0 dX13_allMinutes_5 rfl rfl ?_
      refine zT.callV (M' := mX13_slices) (b := b) [] [zI s] dX13_allMinutes_6 kX13_271 rfl rfl (ci := 10) (r := (RX13, TX13, 62)) rfl (zMod.k hb) (C_X13_slices hb) (by decide) (k' := 0) (n' := 0) (by omega) (by omega) (by simp only [List.map, zcI, zcJ, zcR, List.sum_cons, List.sum_nil]; decide) (zdk (v := some (zI (m (b + 2) (5)))) ?_) (fun _ _ _ _ h => h.elim)
      show zT G _ _ _ _ [zI (m (b + 2) (5)), zI s] _ _ _ _ _ _
      refine zT.ic_ge (tgt := 34) dX13_allMinutes_9 (by decide) (by first | assumption | exact zq_i _ | exact zand_i _ _ | exact zor_i _ _ | exact zN _ | omega) (by first | assumption | exact zq_i _ | exact zand_i _ _ | exact zor_i _ _ | exact zN _ | omega) (fun c9 => ?_) (fun c9 => ?_)
      · refine zT.iload_n 1 dX13_allMinutes_34 rfl rfl ?_
        refine zT.iret dX13_allMinutes_35 rfl ?_
        rw [hv, show s = m (b + 2) 5 by omega]; exact ⟨rfl, rfl, rfl⟩
      · have hrk := hr.mi s 0 (by omega) (by omega) (by omega) (by omega)
        have hrl := hr.mi s 1 (by omega) (by omega) (by omega) (by omega)
        refine zT.iload_n 1 dX13_allMinutes_12 rfl rfl ?_
        refine zT.aload_n 0 dX13_allMinutes_13 rfl rfl ?_
        refine zT.iload_n 2 dX13_allMinutes_14 rfl rfl ?_
        refine zT.iconst dX13_allMinutes_15 ?_
        refine zT.callV (M' := mX13_needs) (b := b) [zI s, zI 0] [zI v] dX13_allMinutes_16 kX13_309 rfl rfl (ci := 10) (r := (RX13, TX13, 62)) rfl (zMod.k hb) (C_X13_needs hb (by first | assumption | exact zq_i _ | exact zand_i _ _ | exact zor_i _ _ | exact zN _ | omega) (by first | assumption | exact zq_i _ | exact zand_i _ _ | exact zor_i _ _ | exact zN _ | omega)) (by decide) (k' := 0) (n' := 0) (by omega) (by omega) (by simp only [List.map, zcI, zcJ, zcR, List.sum_cons, List.sum_nil]; decide) (zdk (v := some (zI (m (b + 2) (8 + 3 * s + 0)))) ?_) (fun _ _ _ _ h => h.elim)
        show zT G _ _ _ _ [zI (m (b + 2) (8 + 3 * s + 0)), zI v] _ _ _ _ _ _
        refine zT.aload_n 0 dX13_allMinutes_19 rfl rfl ?_
        refine zT.iload_n 2 dX13_allMinutes_20 rfl rfl ?_
        refine zT.iconst dX13_allMinutes_21 ?_
        refine zT.callV (M' := mX13_needs) (b := b) [zI s, zI 1] [zI (m (b + 2) (8 + 3 * s + 0)), zI v] dX13_allMinutes_22 kX13_309 rfl rfl (ci := 10) (r := (RX13, TX13, 62)) rfl (zMod.k hb) (C_X13_needs hb (by first | assumption | exact zq_i _ | exact zand_i _ _ | exact zor_i _ _ | exact zN _ | omega) (by first | assumption | exact zq_i _ | exact zand_i _ _ | exact zor_i _ _ | exact zN _ | omega)) (by decide) (k' := 0) (n' := 0) (by omega) (by omega) (by simp only [List.map, zcI, zcJ, zcR, List.sum_cons, List.sum_nil]; decide) (zdk (v := some (zI (m (b + 2) (8 + 3 * s + 1)))) ?_) (fun _ _ _ _ h => h.elim)
        show zT G _ _ _ _ [zI (m (b + 2) (8 + 3 * s + 1)), zI (m (b + 2) (8 + 3 * s + 0)), zI v] _ _ _ _ _ _
        refine zT.iadd dX13_allMinutes_25 ?_
        refine zT.iadd dX13_allMinutes_26 ?_
        refine zT.istore_n 1 dX13_allMinutes_27 rfl (by decide) (zpre1 rfl (zcR _)) ?_
        show zT G _ _ _ [zR b, zI (v + ((m (b + 2) (8 + 3 * s + 0)) + (m (b + 2) (8 + 3 * s + 1)))), zI s] _ _ _ _ _ _ _
        refine zT.iinc 2 dX13_allMinutes_28 rfl (by decide) (zpre1 rfl (zcI _)) ?_
        show zT G _ _ _ [zR b, zI (v + ((m (b + 2) (8 + 3 * s + 0)) + (m (b + 2) (8 + 3 * s + 1)))), zI (s + 1)] _ _ _ _ _ _ _
        refine zT.goto (tgt := 4) dX13_allMinutes_31 (by decide) ?_
        exact ih4 _ _ (by first | assumption | exact zq_i _ | exact zand_i _ _ | exact zor_i _ _ | exact zN _ | omega) (by first | assumption | exact zq_i _ | exact zand_i _ _ | exact zor_i _ _ | exact zN _ | omega) (by unfold ysum at *; rw [zs_s s0, ← hv]) (by omega)
  exact L4 _ _ _ (by first | assumption | exact zq_i _ | exact zand_i _ _ | exact zor_i _ _ | exact zN _ | omega) (by first | assumption | exact zq_i _ | exact zand_i _ _ | exact zor_i _ _ | exact zN _ | omega) (by rfl) (Nat.lt_succ_self _)

theorem C_X13_longest {G : zG} {S : zS} {m : zMm} {b : Int} (hb : zMod S b) (hr : zRow m b) : zC G mX13_longest 2 0 0 [zR b] S m (zDet (some (zI (ylng m b (m (b + 2) 5)))) S m) zNX := by
  have hn := hr.nu
  refine zC.of [zR b, zU, zU] (by decide) rfl (zEn1 (zcR _) (zEn0 (by simp))) rfl ?_
  refine zT.iconst dX13_longest_0 ?_
  refine zT.istore_n 1 dX13_longest_1 rfl (by decide) (zpre1 rfl (zcR _)) ?_
  show zT G _ _ _ [zR b, zI 0, zU] _ _ _ _ _ _ _
  refine zT.iconst dX13_longest_2 ?_
  refine zT.istore_n 2 dX13_longest_3 rfl (by decide) (zpre1 rfl (zcI _)) ?_
  show zT G _ _ _ [zR b, zI 0, zI 0] _ _ _ _ _ _ _
  have L4 : ∀ (N : Nat) (s : Int) (v : Int), (0 ≤ s) → (s ≤ m (b + 2) 5) → (v = ylng m b s) → ((m (b + 2) 5 - s).toNat) < N → zT G mX13_longest 2 4 [zR b, zI v, zI s] [] S m 0 0 (zDet (some (zI (ylng m b (m (b + 2) 5)))) S m) zNX := by
    intro N
    induction N with
    | zero => intro s v s0 s1 hv hN; exact absurd hN (Nat.not_lt_zero _)
    | succ N ih4 =>
      intro s v s0 s1 hv hN
      have hb1 := ylng_b hr s1
      rw [← hv] at hb1
      refine zT.iload_n 2 dX13_longest_4 rfl rfl ?_
      refine zT.aload_n 0 dX13_longest_5 rfl rfl ?_
      refine zT.callV (M' := mX13_slices) (b := b) [] [zI s] dX13_longest_6 kX13_271 rfl rfl (ci := 10) (r := (RX13, TX13, 62)) rfl (zMod.k hb) (C_X13_slices hb) (by decide) (k' := 0) (n' := 0) (by omega) (by omega) (by simp only [List.map, zcI, zcJ, zcR, List.sum_cons, List.sum_nil]; decide) (zdk (v := some (zI (m (b + 2) (5)))) ?_) (fun _ _ _ _ h => h.elim)
      show zT G _ _ _ _ [zI (m (b + 2) (5)), zI s] _ _ _ _ _ _
      refine zT.ic_ge (tgt := 36) dX13_longest_9 (by decide) (by first | assumption | exact zq_i _ | exact zand_i _ _ | exact zor_i _ _ | exact zN _ | omega) (by first | assumption | exact zq_i _ | exact zand_i _ _ | exact zor_i _ _ | exact zN _ | omega) (fun c9 => ?_) (fun c9 => ?_)
      · refine zT.iload_n 1 dX13_longest_36 rfl rfl ?_
        refine zT.iret dX13_longest_37 rfl ?_
        rw [hv, show s = m (b + 2) 5 by omega]; exact ⟨rfl, rfl, rfl⟩
      · have hrk := hr.mi s 0 (by omega) (by omega) (by omega) (by omega)
        have hrl := hr.mi s 1 (by omega) (by omega) (by omega) (by omega)
        refine zT.iload_n 1 dX13_longest_12 rfl rfl ?_
        refine zT.aload_n 0 dX13_longest_13 rfl rfl ?_
        refine zT.iload_n 2 dX13_longest_14 rfl rfl ?_
        refine zT.iconst dX13_longest_15 ?_
        refine zT.callV (M' := mX13_needs) (b := b) [zI s, zI 0] [zI v] dX13_longest_16 kX13_309 rfl rfl (ci := 10) (r := (RX13, TX13, 62)) rfl (zMod.k hb) (C_X13_needs hb (by first | assumption | exact zq_i _ | exact zand_i _ _ | exact zor_i _ _ | exact zN _ | omega) (by first | assumption | exact zq_i _ | exact zand_i _ _ | exact zor_i _ _ | exact zN _ | omega)) (by decide) (k' := 0) (n' := 0) (by omega) (by omega) (by simp only [List.map, zcI, zcJ, zcR, List.sum_cons, List.sum_nil]; decide) (zdk (v := some (zI (m (b + 2) (8 + 3 * s + 0)))) ?_) (fun _ _ _ _ h => h.elim)
        show zT G _ _ _ _ [zI (m (b + 2) (8 + 3 * s + 0)), zI v] _ _ _ _ _ _
        refine zT.aload_n 0 dX13_longest_19 rfl rfl ?_
        refine zT.iload_n 2 dX13_longest_20 rfl rfl ?_
        refine zT.iconst dX13_longest_21 ?_
        refine zT.callV (M' := mX13_needs) (b := b) [zI s, zI 1] [zI (m (b + 2) (8 + 3 * s + 0)), zI v] dX13_longest_22 kX13_309 rfl rfl (ci := 10) (r := (RX13, TX13, 62)) rfl (zMod.k hb) (C_X13_needs hb (by first | assumption | exact zq_i _ | exact zand_i _ _ | exact zor_i _ _ | exact zN _ | omega) (by first | assumption | exact zq_i _ | exact zand_i _ _ | exact zor_i _ _ | exact zN _ | omega)) (by decide) (k' := 0) (n' := 0) (by omega) (by omega) (by simp only [List.map, zcI, zcJ, zcR, List.sum_cons, List.sum_nil]; decide) (zdk (v := some (zI (m (b + 2) (8 + 3 * s + 1)))) ?_) (fun _ _ _ _ h => h.elim)
        show zT G _ _ _ _ [zI (m (b + 2) (8 + 3 * s + 1)), zI (m (b + 2) (8 + 3 * s + 0)), zI v] _ _ _ _ _ _
        refine zT.iadd dX13_longest_25 ?_
        refine zT.callS (M' := mX13_most) [zI v, zI ((m (b + 2) (8 + 3 * s + 0)) + (m (b + 2) (8 + 3 * s + 1)))] [] dX13_longest_26 kX13_318 rfl rfl (C_X13_most (by first | assumption | exact zq_i _ | exact zand_i _ _ | exact zor_i _ _ | exact zN _ | omega) (by first | assumption | exact zq_i _ | exact zand_i _ _ | exact zor_i _ _ | exact zN _ | omega)) (by decide) (k' := 0) (n' := 0) (by omega) (by omega) (by decide) (zdk (v := some (zI (max v ((m (b + 2) (8 + 3 * s + 0)) + (m (b + 2) (8 + 3 * s + 1)))))) ?_) (fun _ _ _ _ h => h.elim)
        show zT G _ _ _ _ [zI (max v ((m (b + 2) (8 + 3 * s + 0)) + (m (b + 2) (8 + 3 * s + 1))))] _ _ _ _ _ _
        refine zT.istore_n 1 dX13_longest_29 rfl (by decide) (zpre1 rfl (zcR _)) ?_
        show zT G _ _ _ [zR b, zI (max v ((m (b + 2) (8 + 3 * s + 0)) + (m (b + 2) (8 + 3 * s + 1)))), zI s] _ _ _ _ _ _ _
        refine zT.iinc 2 dX13_longest_30 rfl (by decide) (zpre1 rfl (zcI _)) ?_
        show zT G _ _ _ [zR b, zI (max v ((m (b + 2) (8 + 3 * s + 0)) + (m (b + 2) (8 + 3 * s + 1)))), zI (s + 1)] _ _ _ _ _ _ _
        refine zT.goto (tgt := 4) dX13_longest_33 (by decide) ?_
        exact ih4 _ _ (by first | assumption | exact zq_i _ | exact zand_i _ _ | exact zor_i _ _ | exact zN _ | omega) (by first | assumption | exact zq_i _ | exact zand_i _ _ | exact zor_i _ _ | exact zN _ | omega) (by unfold ylng at *; rw [zmx_s s0, ← hv]) (by omega)
  exact L4 _ _ _ (by first | assumption | exact zq_i _ | exact zand_i _ _ | exact zor_i _ _ | exact zN _ | omega) (by first | assumption | exact zq_i _ | exact zand_i _ _ | exact zor_i _ _ | exact zN _ | omega) (by rfl) (Nat.lt_succ_self _)

theorem C_X13_bound {G : zG} {S : zS} {m : zMm} {b : Int} {A : zMm} (hb : zMod S b) (hA : yEq m b A) (hV : aVd A) {w : Int} (hw : zi w) : zC G mX13_bound 3 0 0 [zR b, zI w] S m (zDet (some (zI (if w = 0 then fLng (aK (A 0 1023) (A 2)) ((aK (A 0 1023) (A 2)) 5) else if w = 1 then (fAll (aK (A 0 1023) (A 2)) ((aK (A 0 1023) (A 2)) 5) + (aK (A 0 1023) (A 2)) 0 - 1) / (aK (A 0 1023) (A 2)) 0 else if w = 2 ∨ w = 3 then fTop (aK (A 0 1023) (A 2)) (w - 2) ((aK (A 0 1023) (A 2)) 5) else -1))) S (ylaid (zup m b 1000 0) b)) zNX := by
  have ym := hA.R hV
  have nm := ym.n
  have sm := ym.s
  have rm := ym.r
  have hk := hV.ki.1
  have hk0 := hk.1
  have hp0 := hV.pl.1
  have hp1 := hV.pl.2.1
  refine zC.of [zR b, zI w, zU, zU] (by decide) rfl (zEn1 (zcR _) (zEn1 (zcI _) (zEn0 (by simp)))) rfl ?_
  refine zT.rng hb.a1014 (fun zN => ?_)
  obtain ⟨Q9, eQ9⟩ : ∃ z : zQt, z = (zDet (some (zI (if w = 0 then fLng (aK (A 0 1023) (A 2)) ((aK (A 0 1023) (A 2)) 5) else if w = 1 then (fAll (aK (A 0 1023) (A 2)) ((aK (A 0 1023) (A 2)) 5) + (aK (A 0 1023) (A 2)) 0 - 1) / (aK (A 0 1023) (A 2)) 0 else if w = 2 ∨ w = 3 then fTop (aK (A 0 1023) (A 2)) (w - 2) ((aK (A 0 1023) (A 2)) 5) else -1))) S (ylaid (zup m b 1000 0) b)) := ⟨_, rfl⟩
  rw [← eQ9]
  refine zT.aload_n 0 dX13_bound_0 rfl rfl ?_
  refine zT.iconst dX13_bound_1 ?_
  refine zT.putI dX13_bound_2 fX13_122 zs_1000 rfl (zMod.k hb) (j := 0) (by decide) rfl (by first | assumption | exact zq_i _ | exact zand_i _ _ | exact zor_i _ _ | exact zN _ | omega) ?_
  obtain ⟨m1, em1⟩ : ∃ z, z = zup m b 1000 0 := ⟨_, rfl⟩
  rw [← em1]
  have ym1 : yR m1 b A := by rw [em1]; exact ym.up (by omega)
  have nm1 := ym1.n
  have sm1 := ym1.s
  have rm1 := ym1.r
  refine zT.aload_n 0 dX13_bound_5 rfl rfl ?_
  refine zT.callV (M' := mX13_lay) (b := b) [] [] dX13_bound_6 kX13_202 rfl rfl (ci := 10) (r := (RX13, TX13, 62)) rfl (zMod.k hb) (C_X13_lay hb) (by decide) (k' := 0) (n' := 0) (by omega) (by omega) (by decide) (zdk (v := none) ?_) (fun _ _ _ _ h => h.elim)
  show zT G _ _ _ _ [] _ _ _ _ _ _
  obtain ⟨m2, em2⟩ : ∃ z, z = ylaid m1 b := ⟨_, rfl⟩
  rw [← em2]
  have ym2 : yL m2 b A := by rw [em2]; exact hA.L2 hV (fun j => by rw [em1, zup_ne (by omega)]) (by rw [em1, zup_ne (by omega)])
  have nm2 := ym2.1.n
  have sm2 := ym2.1.s
  have rm2 := ym2.1.r
  have g0 := ym2.2 0 (by omega) (by omega)
  have g5 := ym2.2 5 (by omega) (by omega)
  refine zT.iload_n 1 dX13_bound_9 rfl rfl ?_
  refine zT.iconst dX13_bound_10 ?_
  refine zT.iconst dX13_bound_11 ?_
  refine zT.callS (M' := mX13_isIn) [zI w, zI 0, zI 3] [] dX13_bound_12 kX13_189 rfl rfl (C_X13_isIn (by first | assumption | exact zq_i _ | exact zand_i _ _ | exact zor_i _ _ | exact zN _ | omega) (by first | assumption | exact zq_i _ | exact zand_i _ _ | exact zor_i _ _ | exact zN _ | omega) (by first | assumption | exact zq_i _ | exact zand_i _ _ | exact zor_i _ _ | exact zN _ | omega)) (by decide) (k' := 0) (n' := 0) (by omega) (by omega) (by decide) (zdk (v := some (zI (zq (0 ≤ w ∧ w ≤ 3)))) ?_) (fun _ _ _ _ h => h.elim)
  show zT G _ _ _ _ [zI (zq (0 ≤ w ∧ w ≤ 3))] _ _ _ _ _ _
  refine zT.if_neB (tgt := 20) dX13_bound_15 (by decide) (fun c15 => ?_) (fun c15 => ?_)
  · refine zT.iload_n 1 dX13_bound_20 rfl rfl ?_
    refine zT.if_ne (tgt := 29) dX13_bound_21 (by decide) (by first | assumption | exact zq_i _ | exact zand_i _ _ | exact zor_i _ _ | exact zN _ | omega) (fun c21 => ?_) (fun c21 => ?_)
    · refine zT.iload_n 1 dX13_bound_29 rfl rfl ?_
      refine zT.iconst dX13_bound_30 ?_
      refine zT.ic_ne (tgt := 48) dX13_bound_31 (by decide) (by first | assumption | exact zq_i _ | exact zand_i _ _ | exact zor_i _ _ | exact zN _ | omega) (by first | assumption | exact zq_i _ | exact zand_i _ _ | exact zor_i _ _ | exact zN _ | omega) (fun c31 => ?_) (fun c31 => ?_)
      · refine zT.iconst dX13_bound_48 ?_
        refine zT.istore_n 2 dX13_bound_49 rfl (by decide) (zpre1 rfl (zcI _)) ?_
        show zT G _ _ _ [zR b, zI w, zI 0, zU] _ _ _ _ _ _ _
        refine zT.iconst dX13_bound_50 ?_
        refine zT.istore_n 3 dX13_bound_51 rfl (by decide) (zpre1 rfl (zcI _)) ?_
        show zT G _ _ _ [zR b, zI w, zI 0, zI 0] _ _ _ _ _ _ _
        have L52 : ∀ (N : Nat) (s : Int) (v : Int), (0 ≤ s) → (s ≤ (aK (A 0 1023) (A 2)) 5) → (v = fTop (aK (A 0 1023) (A 2)) (w - 2) s) → (((aK (A 0 1023) (A 2)) 5 - s).toNat) < N → zT G mX13_bound 3 52 [zR b, zI w, zI v, zI s] [] S m2 0 0 Q9 zNX := by
          intro N
          induction N with
          | zero => intro s v s0 s1 hv hN; exact absurd hN (Nat.not_lt_zero _)
          | succ N ih52 =>
            intro s v s0 s1 hv hN
            refine zT.iload_n 3 dX13_bound_52 rfl rfl ?_
            refine zT.aload_n 0 dX13_bound_53 rfl rfl ?_
            refine zT.callV (M' := mX13_slices) (b := b) [] [zI s] dX13_bound_54 kX13_271 rfl rfl (ci := 10) (r := (RX13, TX13, 62)) rfl (zMod.k hb) (C_X13_slices hb) (by decide) (k' := 0) (n' := 0) (by omega) (by omega) (by simp only [List.map, zcI, zcJ, zcR, List.sum_cons, List.sum_nil]; decide) (zdk (v := some (zI (m2 (b + 2) (5)))) ?_) (fun _ _ _ _ h => h.elim)
            show zT G _ _ _ _ [zI (m2 (b + 2) (5)), zI s] _ _ _ _ _ _
            refine zT.ic_ge (tgt := 77) dX13_bound_57 (by decide) (by first | assumption | exact zq_i _ | exact zand_i _ _ | exact zor_i _ _ | exact zN _ | omega) (by first | assumption | exact zq_i _ | exact zand_i _ _ | exact zor_i _ _ | exact zN _ | omega) (fun c57 => ?_) (fun c57 => ?_)
            · refine zT.iload_n 2 dX13_bound_77 rfl rfl ?_
              refine zT.iret dX13_bound_78 rfl ?_
              rw [eQ9]
              exact ⟨by rw [if_neg (by omega), if_neg (by omega), if_pos (by omega), hv, show s = (aK (A 0 1023) (A 2)) 5 by omega], rfl, by rw [em2, em1]⟩
            · refine zT.iload_n 2 dX13_bound_60 rfl rfl ?_
              refine zT.aload_n 0 dX13_bound_61 rfl rfl ?_
              refine zT.iload_n 3 dX13_bound_62 rfl rfl ?_
              refine zT.iload_n 1 dX13_bound_63 rfl rfl ?_
              refine zT.iconst dX13_bound_64 ?_
              refine zT.isub dX13_bound_65 ?_
              refine zT.callV (M' := mX13_needs) (b := b) [zI s, zI (w - 2)] [zI v] dX13_bound_66 kX13_309 rfl rfl (ci := 10) (r := (RX13, TX13, 62)) rfl (zMod.k hb) (C_X13_needs hb (by first | assumption | exact zq_i _ | exact zand_i _ _ | exact zor_i _ _ | exact zN _ | omega) (by first | assumption | exact zq_i _ | exact zand_i _ _ | exact zor_i _ _ | exact zN _ | omega)) (by decide) (k' := 0) (n' := 0) (by omega) (by omega) (by simp only [List.map, zcI, zcJ, zcR, List.sum_cons, List.sum_nil]; decide) (zdk (v := some (zI (m2 (b + 2) (8 + 3 * s + (w - 2))))) ?_) (fun _ _ _ _ h => h.elim)
              show zT G _ _ _ _ [zI (m2 (b + 2) (8 + 3 * s + (w - 2))), zI v] _ _ _ _ _ _
              refine zT.iadd dX13_bound_69 ?_
              refine zT.istore_n 2 dX13_bound_70 rfl (by decide) (zpre1 rfl (zcI _)) ?_
              show zT G _ _ _ [zR b, zI w, zI (v + (m2 (b + 2) (8 + 3 * s + (w - 2)))), zI s] _ _ _ _ _ _ _
              refine zT.iinc 3 dX13_bound_71 rfl (by decide) (zpre1 rfl (zcI _)) ?_
              show zT G _ _ _ [zR b, zI w, zI (v + (m2 (b + 2) (8 + 3 * s + (w - 2)))), zI (s + 1)] _ _ _ _ _ _ _
              refine zT.goto (tgt := 52) dX13_bound_74 (by decide) ?_
              exact ih52 _ _ (by first | assumption | exact zq_i _ | exact zand_i _ _ | exact zor_i _ _ | exact zN _ | omega) (by first | assumption | exact zq_i _ | exact zand_i _ _ | exact zor_i _ _ | exact zN _ | omega) (by unfold fTop at *; rw [zs_s s0, ← hv, ym2.2 (8 + 3 * s + (w - 2)) (by omega) (by omega)]) (by omega)
        exact L52 _ _ _ (by first | assumption | exact zq_i _ | exact zand_i _ _ | exact zor_i _ _ | exact zN _ | omega) (by first | assumption | exact zq_i _ | exact zand_i _ _ | exact zor_i _ _ | exact zN _ | omega) (by rfl) (Nat.lt_succ_self _)
      · refine zT.aload_n 0 dX13_bound_34 rfl rfl ?_
        refine zT.callV (M' := mX13_allMinutes) (b := b) [] [] dX13_bound_35 kX13_343 rfl rfl (ci := 10) (r := (RX13, TX13, 62)) rfl (zMod.k hb) (C_X13_allMinutes hb (by first | assumption | exact zq_i _ | exact zand_i _ _ | exact zor_i _ _ | exact zN _ | omega)) (by decide) (k' := 0) (n' := 0) (by omega) (by omega) (by decide) (zdk (v := some (zI (ysum m2 b (m2 (b + 2) 5)))) ?_) (fun _ _ _ _ h => h.elim)
        show zT G _ _ _ _ [zI (ysum m2 b (m2 (b + 2) 5))] _ _ _ _ _ _
        refine zT.aload_n 0 dX13_bound_38 rfl rfl ?_
        refine zT.getF dX13_bound_39 fX13_13 rfl (zMod.k hb) (j := 14) (by decide) rfl (zMod.f1014 hb) ?_
        refine zT.iconst dX13_bound_42 ?_
        refine zT.iald dX13_bound_43 (zMod.a1014 hb) (by first | assumption | exact zq_i _ | exact zand_i _ _ | exact zor_i _ _ | exact zN _ | omega) (by rw [(zMod.n1014 hb)]; first | assumption | exact zq_i _ | exact zand_i _ _ | exact zor_i _ _ | exact zN _ | omega) (fun z43 => ?_)
        have hsb := ysum_b rm2 (Int.le_trans hk0.2.2.2.2.2.2.2.2.2.1 (by omega)) (Int.le_refl _)
        refine zT.callS (M' := mX13_up) [zI (ysum m2 b (m2 (b + 2) 5)), zI (m2 (b + 2) 0)] [] dX13_bound_44 kX13_346 rfl rfl (C_X13_up (by first | assumption | exact zq_i _ | exact zand_i _ _ | exact zor_i _ _ | exact zN _ | omega) (by first | assumption | exact zq_i _ | exact zand_i _ _ | exact zor_i _ _ | exact zN _ | omega) (by first | assumption | exact zq_i _ | exact zand_i _ _ | exact zor_i _ _ | exact zN _ | omega) (by first | assumption | exact zq_i _ | exact zand_i _ _ | exact zor_i _ _ | exact zN _ | omega)) (by decide) (k' := 0) (n' := 0) (by omega) (by omega) (by decide) (zdk (v := some (zI (((ysum m2 b (m2 (b + 2) 5)) + (m2 (b + 2) 0) - 1) / (m2 (b + 2) 0)))) ?_) (fun _ _ _ _ h => h.elim)
        show zT G _ _ _ _ [zI (((ysum m2 b (m2 (b + 2) 5)) + (m2 (b + 2) 0) - 1) / (m2 (b + 2) 0))] _ _ _ _ _ _
        refine zT.iret dX13_bound_47 rfl ?_
        rw [eQ9]
        exact ⟨by rw [if_neg (by omega), if_pos (by omega), g5, g0, ysum_a ym2.1 (by omega)], rfl, by rw [em2, em1]⟩
    · refine zT.aload_n 0 dX13_bound_24 rfl rfl ?_
      refine zT.callV (M' := mX13_longest) (b := b) [] [] dX13_bound_25 kX13_340 rfl rfl (ci := 10) (r := (RX13, TX13, 62)) rfl (zMod.k hb) (C_X13_longest hb (by first | assumption | exact zq_i _ | exact zand_i _ _ | exact zor_i _ _ | exact zN _ | omega)) (by decide) (k' := 0) (n' := 0) (by omega) (by omega) (by decide) (zdk (v := some (zI (ylng m2 b (m2 (b + 2) 5)))) ?_) (fun _ _ _ _ h => h.elim)
      show zT G _ _ _ _ [zI (ylng m2 b (m2 (b + 2) 5))] _ _ _ _ _ _
      refine zT.iret dX13_bound_28 rfl ?_
      rw [eQ9]
      exact ⟨by rw [if_pos (by omega), g5, ylng_a ym2.1 (by omega)], rfl, by rw [em2, em1]⟩
  · refine zT.iconst dX13_bound_18 ?_
    refine zT.iret dX13_bound_19 rfl ?_
    rw [eQ9]
    exact ⟨by rw [if_neg (by omega), if_neg (by omega), if_neg (by omega)], rfl, by rw [em2, em1]⟩

