/-! PanSlicesModel: what changes the tape and the plan (written by gen/m_mod5.py) -/
theorem zand_255 (a : Int) : zand a 255 = a % 256 := zand_mask 8 (by omega) (by decide +kernel) (by omega)
def yCome (m : zMm) (b w : Int) : zMm := yPut (yPut (yPut (yPut m b (w / 16777216 % 256)) b (w / 65536 % 256)) b (w / 256 % 256)) b (w % 256)
theorem yPut_n {m : zMm} {b u : Int} : yPut m b u b 1002 = m b 1002 + 1 := zup_at
theorem yCome_n {m : zMm} {b w : Int} : yCome m b w b 1002 = m b 1002 + 4 := by
  unfold yCome
  rw [yPut_n, yPut_n, yPut_n, yPut_n]
  omega
theorem yEq.come {m : zMm} {b w : Int} {A : zMm} (h : yEq m b A) : yEq (yCome m b w) b (uCome A w) := h.put.put.put.put
theorem ysnap_2 {m : zMm} {b j : Int} : ysnap m b (b + 2) j = m (b + 2) j := by
  unfold ysnap yput ydown
  split
  · rw [zup_ne (by omega), zfl_ne (by omega), zup_ne (by omega), zfl_ne (by omega)]
  · rw [zup_ne (by omega), zfl_ne (by omega)]
theorem ysnap_f {m : zMm} {b a j : Int} (h : a ≠ b + 5) (h2 : ¬ (a = b ∧ j = 1022)) : ysnap m b a j = m a j := by
  unfold ysnap yput ydown
  split
  · rw [zup_ne h2, zfl_ne (fun q => h q.1), zup_ne h2, zfl_ne (fun q => h q.1)]
  · rw [zup_ne h2, zfl_ne (fun q => h q.1)]
theorem C_X13_come {G : zG} {S : zS} {m : zMm} {b w : Int} (hb : zMod S b) (hw : zi w) (h0 : 0 ≤ m b 1002) (h1 : m b 1002 + 4 ≤ 640) : zC G mX13_come 0 0 0 [zR b, zI w] S m (zDet none S (yCome m b w)) zNX := by
  refine zC.of [zR b, zI w, zU] (by decide) rfl (zEn1 (zcR _) (zEn1 (zcI _) (zEn0 (by simp)))) rfl ?_
  refine zT.bipush dX13_come_0 ?_
  refine zT.istore_n 2 dX13_come_2 rfl (by decide) (zpre1 rfl (zcI _)) ?_
  show zT G _ _ _ [zR b, zI w, zI 24] _ _ _ _ _ _ _
  refine zT.iload_n 2 dX13_come_3 rfl rfl ?_
  refine zT.if_lt (tgt := 39) dX13_come_4 (by decide) (by first | assumption | exact zq_i _ | exact zand_i _ _ | exact zor_i _ _ | exact zN _ | omega) (fun c4 => absurd c4 (by decide)) (fun c4 => ?_)
  refine zT.aload_n 0 dX13_come_7 rfl rfl ?_
  refine zT.getF dX13_come_8 fX13_7 rfl (zMod.k hb) (j := 1) (by decide) rfl (zMod.f1001 hb) ?_
  refine zT.aload_n 0 dX13_come_11 rfl rfl ?_
  refine zT.getI dX13_come_12 fX13_125 rfl (zMod.k hb) (j := 2) (by decide) rfl (fun z12 => ?_)
  refine zT.iload_n 1 dX13_come_15 rfl rfl ?_
  refine zT.iload_n 2 dX13_come_16 rfl rfl ?_
  refine zT.iushr dX13_come_17 (by first | assumption | exact zq_i _ | exact zand_i _ _ | exact zor_i _ _ | exact zN _ | omega) (by first | assumption | exact zq_i _ | exact zand_i _ _ | exact zor_i _ _ | exact zN _ | omega) ?_
  refine zT.sipush dX13_come_18 ?_
  refine zT.iand dX13_come_21 ?_
  refine zT.iast dX13_come_22 (zMod.a1001 hb) (by first | assumption | exact zq_i _ | exact zand_i _ _ | exact zor_i _ _ | exact zN _ | omega) (by rw [(zMod.n1001 hb)]; first | assumption | exact zq_i _ | exact zand_i _ _ | exact zor_i _ _ | exact zN _ | omega) (by first | assumption | exact zq_i _ | exact zand_i _ _ | exact zor_i _ _ | exact zN _ | omega) ?_
  obtain ⟨m1, em1⟩ : ∃ z, z = zup m (b + 1) (m b 1002) (zand (w % 4294967296 / 2 ^ (24 : Int).toNat) 255) := ⟨_, rfl⟩
  rw [← em1]
  refine zT.aload_n 0 dX13_come_23 rfl rfl ?_
  refine zT.dup dX13_come_24 (zcR _) ?_
  refine zT.getI dX13_come_25 fX13_125 rfl (zMod.k hb) (j := 2) (by decide) rfl (fun z25 => ?_)
  have r25 : m1 b 1002 = m b 1002 := by rw [em1, zup_ne (by omega)]
  rw [r25] at z25 ⊢
  refine zT.iconst dX13_come_28 ?_
  refine zT.iadd dX13_come_29 ?_
  refine zT.putI dX13_come_30 fX13_125 zs_1002 rfl (zMod.k hb) (j := 2) (by decide) rfl (by first | assumption | exact zq_i _ | exact zand_i _ _ | exact zor_i _ _ | exact zN _ | omega) ?_
  obtain ⟨m2, em2⟩ : ∃ z, z = zup m1 b 1002 ((m b 1002) + 1) := ⟨_, rfl⟩
  rw [← em2]
  refine zT.iinc 2 dX13_come_33 rfl (by decide) (zpre1 rfl (zcI _)) ?_
  show zT G _ _ _ [zR b, zI w, zI 16] _ _ _ _ _ _ _
  refine zT.goto (tgt := 3) dX13_come_36 (by decide) ?_
  refine zT.iload_n 2 dX13_come_3 rfl rfl ?_
  refine zT.if_lt (tgt := 39) dX13_come_4 (by decide) (by first | assumption | exact zq_i _ | exact zand_i _ _ | exact zor_i _ _ | exact zN _ | omega) (fun c4 => absurd c4 (by decide)) (fun c4 => ?_)
  refine zT.aload_n 0 dX13_come_7 rfl rfl ?_
  refine zT.getF dX13_come_8 fX13_7 rfl (zMod.k hb) (j := 1) (by decide) rfl (zMod.f1001 hb) ?_
  refine zT.aload_n 0 dX13_come_11 rfl rfl ?_
  refine zT.getI dX13_come_12 fX13_125 rfl (zMod.k hb) (j := 2) (by decide) rfl (fun z12 => ?_)
  have r12 : m2 b 1002 = (m b 1002) + 1 := by rw [em2, zup_at]
  rw [r12] at z12 ⊢
  refine zT.iload_n 1 dX13_come_15 rfl rfl ?_
  refine zT.iload_n 2 dX13_come_16 rfl rfl ?_
  refine zT.iushr dX13_come_17 (by first | assumption | exact zq_i _ | exact zand_i _ _ | exact zor_i _ _ | exact zN _ | omega) (by first | assumption | exact zq_i _ | exact zand_i _ _ | exact zor_i _ _ | exact zN _ | omega) ?_
  refine zT.sipush dX13_come_18 ?_
  refine zT.iand dX13_come_21 ?_
  refine zT.iast dX13_come_22 (zMod.a1001 hb) (by first | assumption | exact zq_i _ | exact zand_i _ _ | exact zor_i _ _ | exact zN _ | omega) (by rw [(zMod.n1001 hb)]; first | assumption | exact zq_i _ | exact zand_i _ _ | exact zor_i _ _ | exact zN _ | omega) (by first | assumption | exact zq_i _ | exact zand_i _ _ | exact zor_i _ _ | exact zN _ | omega) ?_
  obtain ⟨m3, em3⟩ : ∃ z, z = zup m2 (b + 1) ((m b 1002) + 1) (zand (w % 4294967296 / 2 ^ (16 : Int).toNat) 255) := ⟨_, rfl⟩
  rw [← em3]
  refine zT.aload_n 0 dX13_come_23 rfl rfl ?_
  refine zT.dup dX13_come_24 (zcR _) ?_
  refine zT.getI dX13_come_25 fX13_125 rfl (zMod.k hb) (j := 2) (by decide) rfl (fun z25 => ?_)
  have r25 : m3 b 1002 = (m b 1002) + 1 := by rw [em3, zup_ne (by omega), em2, zup_at]
  rw [r25] at z25 ⊢
  refine zT.iconst dX13_come_28 ?_
  refine zT.iadd dX13_come_29 ?_
  refine zT.putI dX13_come_30 fX13_125 zs_1002 rfl (zMod.k hb) (j := 2) (by decide) rfl (by first | assumption | exact zq_i _ | exact zand_i _ _ | exact zor_i _ _ | exact zN _ | omega) ?_
  obtain ⟨m4, em4⟩ : ∃ z, z = zup m3 b 1002 (((m b 1002) + 1) + 1) := ⟨_, rfl⟩
  rw [← em4]
  refine zT.iinc 2 dX13_come_33 rfl (by decide) (zpre1 rfl (zcI _)) ?_
  show zT G _ _ _ [zR b, zI w, zI 8] _ _ _ _ _ _ _
  refine zT.goto (tgt := 3) dX13_come_36 (by decide) ?_
  refine zT.iload_n 2 dX13_come_3 rfl rfl ?_
  refine zT.if_lt (tgt := 39) dX13_come_4 (by decide) (by first | assumption | exact zq_i _ | exact zand_i _ _ | exact zor_i _ _ | exact zN _ | omega) (fun c4 => absurd c4 (by decide)) (fun c4 => ?_)
  refine zT.aload_n 0 dX13_come_7 rfl rfl ?_
  refine zT.getF dX13_come_8 fX13_7 rfl (zMod.k hb) (j := 1) (by decide) rfl (zMod.f1001 hb) ?_
  refine zT.aload_n 0 dX13_come_11 rfl rfl ?_
  refine zT.getI dX13_come_12 fX13_125 rfl (zMod.k hb) (j := 2) (by decide) rfl (fun z12 => ?_)
  have r12 : m4 b 1002 = ((m b 1002) + 1) + 1 := by rw [em4, zup_at]
  rw [r12] at z12 ⊢
  refine zT.iload_n 1 dX13_come_15 rfl rfl ?_
  refine zT.iload_n 2 dX13_come_16 rfl rfl ?_
  refine zT.iushr dX13_come_17 (by first | assumption | exact zq_i _ | exact zand_i _ _ | exact zor_i _ _ | exact zN _ | omega) (by first | assumption | exact zq_i _ | exact zand_i _ _ | exact zor_i _ _ | exact zN _ | omega) ?_
  refine zT.sipush dX13_come_18 ?_
  refine zT.iand dX13_come_21 ?_
  refine zT.iast dX13_come_22 (zMod.a1001 hb) (by first | assumption | exact zq_i _ | exact zand_i _ _ | exact zor_i _ _ | exact zN _ | omega) (by rw [(zMod.n1001 hb)]; first | assumption | exact zq_i _ | exact zand_i _ _ | exact zor_i _ _ | exact zN _ | omega) (by first | assumption | exact zq_i _ | exact zand_i _ _ | exact zor_i _ _ | exact zN _ | omega) ?_
  obtain ⟨m5, em5⟩ : ∃ z, z = zup m4 (b + 1) (((m b 1002) + 1) + 1) (zand (w % 4294967296 / 2 ^ (8 : Int).toNat) 255) := ⟨_, rfl⟩
  rw [← em5]
  refine zT.aload_n 0 dX13_come_23 rfl rfl ?_
  refine zT.dup dX13_come_24 (zcR _) ?_
  refine zT.getI dX13_come_25 fX13_125 rfl (zMod.k hb) (j := 2) (by decide) rfl (fun z25 => ?_)
  have r25 : m5 b 1002 = ((m b 1002) + 1) + 1 := by rw [em5, zup_ne (by omega), em4, zup_at]
  rw [r25] at z25 ⊢
  refine zT.iconst dX13_come_28 ?_
  refine zT.iadd dX13_come_29 ?_
  refine zT.putI dX13_come_30 fX13_125 zs_1002 rfl (zMod.k hb) (j := 2) (by decide) rfl (by first | assumption | exact zq_i _ | exact zand_i _ _ | exact zor_i _ _ | exact zN _ | omega) ?_
  obtain ⟨m6, em6⟩ : ∃ z, z = zup m5 b 1002 ((((m b 1002) + 1) + 1) + 1) := ⟨_, rfl⟩
  rw [← em6]
  refine zT.iinc 2 dX13_come_33 rfl (by decide) (zpre1 rfl (zcI _)) ?_
  show zT G _ _ _ [zR b, zI w, zI 0] _ _ _ _ _ _ _
  refine zT.goto (tgt := 3) dX13_come_36 (by decide) ?_
  refine zT.iload_n 2 dX13_come_3 rfl rfl ?_
  refine zT.if_lt (tgt := 39) dX13_come_4 (by decide) (by first | assumption | exact zq_i _ | exact zand_i _ _ | exact zor_i _ _ | exact zN _ | omega) (fun c4 => absurd c4 (by decide)) (fun c4 => ?_)
  refine zT.aload_n 0 dX13_come_7 rfl rfl ?_
  refine zT.getF dX13_come_8 fX13_7 rfl (zMod.k hb) (j := 1) (by decide) rfl (zMod.f1001 hb) ?_
  refine zT.aload_n 0 dX13_come_11 rfl rfl ?_
  refine zT.getI dX13_come_12 fX13_125 rfl (zMod.k hb) (j := 2) (by decide) rfl (fun z12 => ?_)
  have r12 : m6 b 1002 = (((m b 1002) + 1) + 1) + 1 := by rw [em6, zup_at]
  rw [r12] at z12 ⊢
  refine zT.iload_n 1 dX13_come_15 rfl rfl ?_
  refine zT.iload_n 2 dX13_come_16 rfl rfl ?_
  refine zT.iushr dX13_come_17 (by first | assumption | exact zq_i _ | exact zand_i _ _ | exact zor_i _ _ | exact zN _ | omega) (by first | assumption | exact zq_i _ | exact zand_i _ _ | exact zor_i _ _ | exact zN _ | omega) ?_
  refine zT.sipush dX13_come_18 ?_
  refine zT.iand dX13_come_21 ?_
  refine zT.iast dX13_come_22 (zMod.a1001 hb) (by first | assumption | exact zq_i _ | exact zand_i _ _ | exact zor_i _ _ | exact zN _ | omega) (by rw [(zMod.n1001 hb)]; first | assumption | exact zq_i _ | exact zand_i _ _ | exact zor_i _ _ | exact zN _ | omega) (by first | assumption | exact zq_i _ | exact zand_i _ _ | exact zor_i _ _ | exact zN _ | omega) ?_
  obtain ⟨m7, em7⟩ : ∃ z, z = zup m6 (b + 1) ((((m b 1002) + 1) + 1) + 1) (zand (w % 4294967296 / 2 ^ (0 : Int).toNat) 255) := ⟨_, rfl⟩
  rw [← em7]
  refine zT.aload_n 0 dX13_come_23 rfl rfl ?_
  refine zT.dup dX13_come_24 (zcR _) ?_
  refine zT.getI dX13_come_25 fX13_125 rfl (zMod.k hb) (j := 2) (by decide) rfl (fun z25 => ?_)
  have r25 : m7 b 1002 = (((m b 1002) + 1) + 1) + 1 := by rw [em7, zup_ne (by omega), em6, zup_at]
  rw [r25] at z25 ⊢
  refine zT.iconst dX13_come_28 ?_
  refine zT.iadd dX13_come_29 ?_
  refine zT.putI dX13_come_30 fX13_125 zs_1002 rfl (zMod.k hb) (j := 2) (by decide) rfl (by first | assumption | exact zq_i _ | exact zand_i _ _ | exact zor_i _ _ | exact zN _ | omega) ?_
  obtain ⟨m8, em8⟩ : ∃ z, z = zup m7 b 1002 (((((m b 1002) + 1) + 1) + 1) + 1) := ⟨_, rfl⟩
  rw [← em8]
  refine zT.iinc 2 dX13_come_33 rfl (by decide) (zpre1 rfl (zcI _)) ?_
  show zT G _ _ _ [zR b, zI w, zI (-8)] _ _ _ _ _ _ _
  refine zT.goto (tgt := 3) dX13_come_36 (by decide) ?_
  refine zT.iload_n 2 dX13_come_3 rfl rfl ?_
  refine zT.if_lt (tgt := 39) dX13_come_4 (by decide) (by first | assumption | exact zq_i _ | exact zand_i _ _ | exact zor_i _ _ | exact zN _ | omega) (fun c4 => ?_) (fun c4 => absurd c4 (by decide))
  refine zT.vret dX13_come_39 rfl ?_
  have p24 : (2 : Int) ^ Int.toNat 24 = 16777216 := rfl
  have p16 : (2 : Int) ^ Int.toNat 16 = 65536 := rfl
  have p8 : (2 : Int) ^ Int.toNat 8 = 256 := rfl
  have p0 : (2 : Int) ^ Int.toNat 0 = 1 := rfl
  refine ⟨rfl, rfl, ?_⟩
  unfold yCome yPut
  have e3 : w % 4294967296 / 16777216 % 256 = w / 16777216 % 256 := by omega
  have e2 : w % 4294967296 / 65536 % 256 = w / 65536 % 256 := by omega
  have e1 : w % 4294967296 / 256 % 256 = w / 256 % 256 := by omega
  have e0 : w % 4294967296 % 256 = w % 256 := by omega
  simp only [zup_at, em8, em7, em6, em5, em4, em3, em2, em1, zand_255, p24, p16, p8, p0, Int.ediv_one, e3, e2, e1, e0]

theorem C_X13_feed {G : zG} {S : zS} {m : zMm} {b : Int} {A : zMm} (hb : zMod S b) (hA : yEq m b A) (hV : aVd A) {u1 u2 u3 u4 u5 : Int} (h1 : zi u1) (h2 : zi u2) (h3 : zi u3) (h4 : zi u4) (h5 : zi u5) : zC G mX13_feed 1 0 0 [zR b, zI u1, zI u2, zI u3, zI u4, zI u5] S m (zDet (some (zI (if A 0 1002 + 20 > 640 then -1 else A 0 1002 + 20))) S (if A 0 1002 + 20 > 640 then zup m b 1000 0 else (yCome (yCome (yCome (yCome (yCome (zup m b 1000 0) b u1) b u2) b u3) b u4) b u5))) zNX := by
  have ym := hA.R hV
  have nm := ym.n
  have sm := ym.s
  have rm := ym.r
  have hk := hV.ki.1
  have hk0 := hk.1
  have hp0 := hV.pl.1
  have hp1 := hV.pl.2.1
  have q0 := hA.at (j := 1002)
  have hvt := hV.tp.1
  refine zC.of [zR b, zI u1, zI u2, zI u3, zI u4, zI u5] (by decide) rfl (zEn1 (zcR _) (zEn1 (zcI _) (zEn1 (zcI _) (zEn1 (zcI _) (zEn1 (zcI _) (zEn1 (zcI _) (zEn0 (by simp)))))))) rfl ?_
  refine zT.rng hb.a1014 (fun zN => ?_)
  obtain ⟨Q9, eQ9⟩ : ∃ z : zQt, z = (zDet (some (zI (if A 0 1002 + 20 > 640 then -1 else A 0 1002 + 20))) S (if A 0 1002 + 20 > 640 then zup m b 1000 0 else (yCome (yCome (yCome (yCome (yCome (zup m b 1000 0) b u1) b u2) b u3) b u4) b u5))) := ⟨_, rfl⟩
  rw [← eQ9]
  refine zT.aload_n 0 dX13_feed_0 rfl rfl ?_
  refine zT.iconst dX13_feed_1 ?_
  refine zT.putI dX13_feed_2 fX13_122 zs_1000 rfl (zMod.k hb) (j := 0) (by decide) rfl (by first | assumption | exact zq_i _ | exact zand_i _ _ | exact zor_i _ _ | exact zN _ | omega) ?_
  obtain ⟨m1, em1⟩ : ∃ z, z = zup m b 1000 0 := ⟨_, rfl⟩
  rw [← em1]
  have ym1 : yR m1 b A := by rw [em1]; exact ym.up (by omega)
  have nm1 := ym1.n
  have sm1 := ym1.s
  have rm1 := ym1.r
  refine zT.aload_n 0 dX13_feed_5 rfl rfl ?_
  refine zT.getI dX13_feed_6 fX13_125 rfl (zMod.k hb) (j := 2) (by decide) rfl (fun z6 => ?_)
  have r6 : m1 b 1002 = m b 1002 := by rw [em1, zup_ne (by omega)]
  rw [r6] at z6 ⊢
  refine zT.bipush dX13_feed_9 ?_
  refine zT.iadd dX13_feed_11 ?_
  refine zT.sipush dX13_feed_12 ?_
  refine zT.ic_le (tgt := 20) dX13_feed_15 (by decide) (by first | assumption | exact zq_i _ | exact zand_i _ _ | exact zor_i _ _ | exact zN _ | omega) (by first | assumption | exact zq_i _ | exact zand_i _ _ | exact zor_i _ _ | exact zN _ | omega) (fun c15 => ?_) (fun c15 => ?_)
  · refine zT.aload_n 0 dX13_feed_20 rfl rfl ?_
    refine zT.iload_n 1 dX13_feed_21 rfl rfl ?_
    refine zT.callV (M' := mX13_come) (b := b) [zI u1] [] dX13_feed_22 kX13_128 rfl rfl (ci := 10) (r := (RX13, TX13, 62)) rfl (zMod.k hb) (C_X13_come hb (show zi u1 by assumption) (by rw [em1, zup_ne (by omega)]; omega) (by rw [em1, zup_ne (by omega)]; omega)) (by decide) (k' := 0) (n' := 0) (by omega) (by omega) (by decide) (zdk (v := none) ?_) (fun _ _ _ _ h => h.elim)
    show zT G _ _ _ _ [] _ _ _ _ _ _
    obtain ⟨m2, em2⟩ : ∃ z, z = yCome m1 b u1 := ⟨_, rfl⟩
    rw [← em2]
    refine zT.aload_n 0 dX13_feed_25 rfl rfl ?_
    refine zT.iload_n 2 dX13_feed_26 rfl rfl ?_
    refine zT.callV (M' := mX13_come) (b := b) [zI u2] [] dX13_feed_27 kX13_128 rfl rfl (ci := 10) (r := (RX13, TX13, 62)) rfl (zMod.k hb) (C_X13_come hb (show zi u2 by assumption) (by rw [em2, yCome_n, em1, zup_ne (by omega)]; omega) (by rw [em2, yCome_n, em1, zup_ne (by omega)]; omega)) (by decide) (k' := 0) (n' := 0) (by omega) (by omega) (by decide) (zdk (v := none) ?_) (fun _ _ _ _ h => h.elim)
    show zT G _ _ _ _ [] _ _ _ _ _ _
    obtain ⟨m3, em3⟩ : ∃ z, z = yCome m2 b u2 := ⟨_, rfl⟩
    rw [← em3]
    refine zT.aload_n 0 dX13_feed_30 rfl rfl ?_
    refine zT.iload_n 3 dX13_feed_31 rfl rfl ?_
    refine zT.callV (M' := mX13_come) (b := b) [zI u3] [] dX13_feed_32 kX13_128 rfl rfl (ci := 10) (r := (RX13, TX13, 62)) rfl (zMod.k hb) (C_X13_come hb (show zi u3 by assumption) (by rw [em3, yCome_n, em2, yCome_n, em1, zup_ne (by omega)]; omega) (by rw [em3, yCome_n, em2, yCome_n, em1, zup_ne (by omega)]; omega)) (by decide) (k' := 0) (n' := 0) (by omega) (by omega) (by decide) (zdk (v := none) ?_) (fun _ _ _ _ h => h.elim)
    show zT G _ _ _ _ [] _ _ _ _ _ _
    obtain ⟨m4, em4⟩ : ∃ z, z = yCome m3 b u3 := ⟨_, rfl⟩
    rw [← em4]
    refine zT.aload_n 0 dX13_feed_35 rfl rfl ?_
    refine zT.iload 4 dX13_feed_36 rfl ?_
    refine zT.callV (M' := mX13_come) (b := b) [zI u4] [] dX13_feed_38 kX13_128 rfl rfl (ci := 10) (r := (RX13, TX13, 62)) rfl (zMod.k hb) (C_X13_come hb (show zi u4 by assumption) (by rw [em4, yCome_n, em3, yCome_n, em2, yCome_n, em1, zup_ne (by omega)]; omega) (by rw [em4, yCome_n, em3, yCome_n, em2, yCome_n, em1, zup_ne (by omega)]; omega)) (by decide) (k' := 0) (n' := 0) (by omega) (by omega) (by decide) (zdk (v := none) ?_) (fun _ _ _ _ h => h.elim)
    show zT G _ _ _ _ [] _ _ _ _ _ _
    obtain ⟨m5, em5⟩ : ∃ z, z = yCome m4 b u4 := ⟨_, rfl⟩
    rw [← em5]
    refine zT.aload_n 0 dX13_feed_41 rfl rfl ?_
    refine zT.iload 5 dX13_feed_42 rfl ?_
    refine zT.callV (M' := mX13_come) (b := b) [zI u5] [] dX13_feed_44 kX13_128 rfl rfl (ci := 10) (r := (RX13, TX13, 62)) rfl (zMod.k hb) (C_X13_come hb (show zi u5 by assumption) (by rw [em5, yCome_n, em4, yCome_n, em3, yCome_n, em2, yCome_n, em1, zup_ne (by omega)]; omega) (by rw [em5, yCome_n, em4, yCome_n, em3, yCome_n, em2, yCome_n, em1, zup_ne (by omega)]; omega)) (by decide) (k' := 0) (n' := 0) (by omega) (by omega) (by decide) (zdk (v := none) ?_) (fun _ _ _ _ h => h.elim)
    show zT G _ _ _ _ [] _ _ _ _ _ _
    obtain ⟨m6, em6⟩ : ∃ z, z = yCome m5 b u5 := ⟨_, rfl⟩
    rw [← em6]
    refine zT.aload_n 0 dX13_feed_47 rfl rfl ?_
    refine zT.getI dX13_feed_48 fX13_125 rfl (zMod.k hb) (j := 2) (by decide) rfl (fun z48 => ?_)
    refine zT.iret dX13_feed_51 rfl ?_
    rw [eQ9]
    rw [if_neg (by omega), if_neg (by omega)]
    refine ⟨?_, rfl, by rw [em6, em5, em4, em3, em2, em1]⟩
    rw [em6, yCome_n, em5, yCome_n, em4, yCome_n, em3, yCome_n, em2, yCome_n, em1, zup_ne (by omega)]
    congr 2
    omega
  · refine zT.iconst dX13_feed_18 ?_
    refine zT.iret dX13_feed_19 rfl ?_
    rw [eQ9]
    rw [if_pos (by omega), if_pos (by omega)]
    exact ⟨rfl, rfl, by rw [em1]⟩

theorem C_X13_end {G : zG} {S : zS} {m : zMm} {b : Int} {A : zMm} (hb : zMod S b) (hA : yEq m b A) (hV : aVd A) {n : Int} (hn : zi n) : zC G mX13_end 0 0 0 [zR b, zI n] S m (zDet (some (zI (if 0 ≤ n ∧ n ≤ A 0 1002 then 1 else 0))) S (if 0 ≤ n ∧ n ≤ A 0 1002 then zup (zup m b 1000 0) b 1002 n else zup m b 1000 0)) zNX := by
  have ym := hA.R hV
  have nm := ym.n
  have sm := ym.s
  have rm := ym.r
  have hk := hV.ki.1
  have hk0 := hk.1
  have hp0 := hV.pl.1
  have hp1 := hV.pl.2.1
  have q0 := hA.at (j := 1002)
  refine zC.of [zR b, zI n] (by decide) rfl (zEn1 (zcR _) (zEn1 (zcI _) (zEn0 (by simp)))) rfl ?_
  refine zT.rng hb.a1014 (fun zN => ?_)
  obtain ⟨Q9, eQ9⟩ : ∃ z : zQt, z = (zDet (some (zI (if 0 ≤ n ∧ n ≤ A 0 1002 then 1 else 0))) S (if 0 ≤ n ∧ n ≤ A 0 1002 then zup (zup m b 1000 0) b 1002 n else zup m b 1000 0)) := ⟨_, rfl⟩
  rw [← eQ9]
  refine zT.aload_n 0 dX13_end_0 rfl rfl ?_
  refine zT.iconst dX13_end_1 ?_
  refine zT.putI dX13_end_2 fX13_122 zs_1000 rfl (zMod.k hb) (j := 0) (by decide) rfl (by first | assumption | exact zq_i _ | exact zand_i _ _ | exact zor_i _ _ | exact zN _ | omega) ?_
  obtain ⟨m1, em1⟩ : ∃ z, z = zup m b 1000 0 := ⟨_, rfl⟩
  rw [← em1]
  have ym1 : yR m1 b A := by rw [em1]; exact ym.up (by omega)
  have nm1 := ym1.n
  have sm1 := ym1.s
  have rm1 := ym1.r
  refine zT.iload_n 1 dX13_end_5 rfl rfl ?_
  refine zT.if_lt (tgt := 17) dX13_end_6 (by decide) (by first | assumption | exact zq_i _ | exact zand_i _ _ | exact zor_i _ _ | exact zN _ | omega) (fun c6 => ?_) (fun c6 => ?_)
  · refine zT.iconst dX13_end_17 ?_
    refine zT.zret dX13_end_18 rfl (by omega) ?_
    rw [eQ9]
    rw [if_neg (by omega), if_neg (by omega)]
    exact ⟨rfl, rfl, by rw [em1]⟩
  · refine zT.iload_n 1 dX13_end_9 rfl rfl ?_
    refine zT.aload_n 0 dX13_end_10 rfl rfl ?_
    refine zT.getI dX13_end_11 fX13_125 rfl (zMod.k hb) (j := 2) (by decide) rfl (fun z11 => ?_)
    have r11 : m1 b 1002 = m b 1002 := by rw [em1, zup_ne (by omega)]
    rw [r11] at z11 ⊢
    refine zT.ic_le (tgt := 19) dX13_end_14 (by decide) (by first | assumption | exact zq_i _ | exact zand_i _ _ | exact zor_i _ _ | exact zN _ | omega) (by first | assumption | exact zq_i _ | exact zand_i _ _ | exact zor_i _ _ | exact zN _ | omega) (fun c14 => ?_) (fun c14 => ?_)
    · refine zT.aload_n 0 dX13_end_19 rfl rfl ?_
      refine zT.iload_n 1 dX13_end_20 rfl rfl ?_
      refine zT.putI dX13_end_21 fX13_125 zs_1002 rfl (zMod.k hb) (j := 2) (by decide) rfl (by first | assumption | exact zq_i _ | exact zand_i _ _ | exact zor_i _ _ | exact zN _ | omega) ?_
      obtain ⟨m2, em2⟩ : ∃ z, z = zup m1 b 1002 n := ⟨_, rfl⟩
      rw [← em2]
      have ym2 : yR m2 b A := by rw [em2]; exact ym1.up (by omega)
      have nm2 := ym2.n
      have sm2 := ym2.s
      have rm2 := ym2.r
      refine zT.iconst dX13_end_24 ?_
      refine zT.zret dX13_end_25 rfl (by omega) ?_
      rw [eQ9]
      rw [if_pos (by omega), if_pos (by omega)]
      exact ⟨rfl, rfl, by rw [em2, em1]⟩
    · refine zT.iconst dX13_end_17 ?_
      refine zT.zret dX13_end_18 rfl (by omega) ?_
      rw [eQ9]
      rw [if_neg (by omega), if_neg (by omega)]
      exact ⟨rfl, rfl, by rw [em1]⟩

theorem C_X13_add {G : zG} {S : zS} {m : zMm} {b : Int} {A : zMm} (hb : zMod S b) (hA : yEq m b A) (hV : aVd A) {s c f a n : Int} (hs : zi s) (hc : zi c) (hf : zi f) (ha : zi a) (hn : zi n) : zC G mX13_add 2 0 0 [zR b, zI s, zI c, zI f, zI a, zI n] S m (zDet (some (zI (if ((0 ≤ s ∧ s < (aK (A 0 1023) (A 2)) 5) ∧ (0 ≤ c ∧ c ≤ 1) ∧ (0 ≤ f ∧ f ≤ 240) ∧ (0 ≤ a ∧ a ≤ (aK (A 0 1023) (A 2)) 0 - 1) ∧ (1 ≤ n ∧ n ≤ 20) ∧ A 2 58 ≠ 400) then A 2 58 else -1))) S (if ((0 ≤ s ∧ s < (aK (A 0 1023) (A 2)) 5) ∧ (0 ≤ c ∧ c ≤ 1) ∧ (0 ≤ f ∧ f ≤ 240) ∧ (0 ≤ a ∧ a ≤ (aK (A 0 1023) (A 2)) 0 - 1) ∧ (1 ≤ n ∧ n ≤ 20) ∧ A 2 58 ≠ 400) then ylay (ysnap (ylaid (zup m b 1000 0) b) b) b s c f a n else ylaid (zup m b 1000 0) b)) zNX := by
  have ym := hA.R hV
  have nm := ym.n
  have sm := ym.s
  have rm := ym.r
  have hk := hV.ki.1
  have hk0 := hk.1
  have hp0 := hV.pl.1
  have hp1 := hV.pl.2.1
  have hsn := hA.at (j := 1022)
  have hsv := hV.un.1
  refine zC.of [zR b, zI s, zI c, zI f, zI a, zI n] (by decide) rfl (zEn1 (zcR _) (zEn1 (zcI _) (zEn1 (zcI _) (zEn1 (zcI _) (zEn1 (zcI _) (zEn1 (zcI _) (zEn0 (by simp)))))))) rfl ?_
  refine zT.rng hb.a1014 (fun zN => ?_)
  obtain ⟨Q9, eQ9⟩ : ∃ z : zQt, z = (zDet (some (zI (if ((0 ≤ s ∧ s < (aK (A 0 1023) (A 2)) 5) ∧ (0 ≤ c ∧ c ≤ 1) ∧ (0 ≤ f ∧ f ≤ 240) ∧ (0 ≤ a ∧ a ≤ (aK (A 0 1023) (A 2)) 0 - 1) ∧ (1 ≤ n ∧ n ≤ 20) ∧ A 2 58 ≠ 400) then A 2 58 else -1))) S (if ((0 ≤ s ∧ s < (aK (A 0 1023) (A 2)) 5) ∧ (0 ≤ c ∧ c ≤ 1) ∧ (0 ≤ f ∧ f ≤ 240) ∧ (0 ≤ a ∧ a ≤ (aK (A 0 1023) (A 2)) 0 - 1) ∧ (1 ≤ n ∧ n ≤ 20) ∧ A 2 58 ≠ 400) then ylay (ysnap (ylaid (zup m b 1000 0) b) b) b s c f a n else ylaid (zup m b 1000 0) b)) := ⟨_, rfl⟩
  rw [← eQ9]
  refine zT.aload_n 0 dX13_add_0 rfl rfl ?_
  refine zT.iconst dX13_add_1 ?_
  refine zT.putI dX13_add_2 fX13_122 zs_1000 rfl (zMod.k hb) (j := 0) (by decide) rfl (by first | assumption | exact zq_i _ | exact zand_i _ _ | exact zor_i _ _ | exact zN _ | omega) ?_
  obtain ⟨m1, em1⟩ : ∃ z, z = zup m b 1000 0 := ⟨_, rfl⟩
  rw [← em1]
  have ym1 : yR m1 b A := by rw [em1]; exact ym.up (by omega)
  have nm1 := ym1.n
  have sm1 := ym1.s
  have rm1 := ym1.r
  refine zT.aload_n 0 dX13_add_5 rfl rfl ?_
  refine zT.callV (M' := mX13_lay) (b := b) [] [] dX13_add_6 kX13_202 rfl rfl (ci := 10) (r := (RX13, TX13, 62)) rfl (zMod.k hb) (C_X13_lay hb) (by decide) (k' := 0) (n' := 0) (by omega) (by omega) (by decide) (zdk (v := none) ?_) (fun _ _ _ _ h => h.elim)
  show zT G _ _ _ _ [] _ _ _ _ _ _
  obtain ⟨m2, em2⟩ : ∃ z, z = ylaid m1 b := ⟨_, rfl⟩
  rw [← em2]
  have ym2 : yL m2 b A := by rw [em2]; exact hA.L2 hV (fun j => by rw [em1, zup_ne (by omega)]) (by rw [em1, zup_ne (by omega)])
  have nm2 := ym2.1.n
  have sm2 := ym2.1.s
  have rm2 := ym2.1.r
  have g0 := ym2.2 0 (by omega) (by omega)
  refine zT.aload_n 0 dX13_add_9 rfl rfl ?_
  refine zT.iload_n 1 dX13_add_10 rfl rfl ?_
  refine zT.callV (M' := mX13_isSlice) (b := b) [zI s] [] dX13_add_11 kX13_274 rfl rfl (ci := 10) (r := (RX13, TX13, 62)) rfl (zMod.k hb) (C_X13_isSlice hb (by first | assumption | exact zq_i _ | exact zand_i _ _ | exact zor_i _ _ | exact zN _ | omega)) (by decide) (k' := 0) (n' := 0) (by omega) (by omega) (by decide) (zdk (v := some (zI (zq (0 ≤ s ∧ s < m2 (b + 2) (5))))) ?_) (fun _ _ _ _ h => h.elim)
  show zT G _ _ _ _ [zI (zq (0 ≤ s ∧ s < m2 (b + 2) (5)))] _ _ _ _ _ _
  refine zT.if_eqB (tgt := 75) dX13_add_14 (by decide) (fun c14 => ?_) (fun c14 => ?_)
  · refine zT.iconst dX13_add_75 ?_
    refine zT.iret dX13_add_76 rfl ?_
    rw [eQ9]
    rw [if_neg (by omega), if_neg (by omega)]
    exact ⟨rfl, rfl, by rw [em2, em1]⟩
  · refine zT.iload_n 2 dX13_add_17 rfl rfl ?_
    refine zT.iconst dX13_add_18 ?_
    refine zT.iconst dX13_add_19 ?_
    refine zT.callS (M' := mX13_isIn) [zI c, zI 0, zI 1] [] dX13_add_20 kX13_189 rfl rfl (C_X13_isIn (by first | assumption | exact zq_i _ | exact zand_i _ _ | exact zor_i _ _ | exact zN _ | omega) (by first | assumption | exact zq_i _ | exact zand_i _ _ | exact zor_i _ _ | exact zN _ | omega) (by first | assumption | exact zq_i _ | exact zand_i _ _ | exact zor_i _ _ | exact zN _ | omega)) (by decide) (k' := 0) (n' := 0) (by omega) (by omega) (by decide) (zdk (v := some (zI (zq (0 ≤ c ∧ c ≤ 1)))) ?_) (fun _ _ _ _ h => h.elim)
    show zT G _ _ _ _ [zI (zq (0 ≤ c ∧ c ≤ 1))] _ _ _ _ _ _
    refine zT.if_eqB (tgt := 75) dX13_add_23 (by decide) (fun c23 => ?_) (fun c23 => ?_)
    · refine zT.iconst dX13_add_75 ?_
      refine zT.iret dX13_add_76 rfl ?_
      rw [eQ9]
      rw [if_neg (by omega), if_neg (by omega)]
      exact ⟨rfl, rfl, by rw [em2, em1]⟩
    · refine zT.iload_n 3 dX13_add_26 rfl rfl ?_
      refine zT.iconst dX13_add_27 ?_
      refine zT.sipush dX13_add_28 ?_
      refine zT.callS (M' := mX13_isIn) [zI f, zI 0, zI 240] [] dX13_add_31 kX13_189 rfl rfl (C_X13_isIn (by first | assumption | exact zq_i _ | exact zand_i _ _ | exact zor_i _ _ | exact zN _ | omega) (by first | assumption | exact zq_i _ | exact zand_i _ _ | exact zor_i _ _ | exact zN _ | omega) (by first | assumption | exact zq_i _ | exact zand_i _ _ | exact zor_i _ _ | exact zN _ | omega)) (by decide) (k' := 0) (n' := 0) (by omega) (by omega) (by decide) (zdk (v := some (zI (zq (0 ≤ f ∧ f ≤ 240)))) ?_) (fun _ _ _ _ h => h.elim)
      show zT G _ _ _ _ [zI (zq (0 ≤ f ∧ f ≤ 240))] _ _ _ _ _ _
      refine zT.if_eqB (tgt := 75) dX13_add_34 (by decide) (fun c34 => ?_) (fun c34 => ?_)
      · refine zT.iconst dX13_add_75 ?_
        refine zT.iret dX13_add_76 rfl ?_
        rw [eQ9]
        rw [if_neg (by omega), if_neg (by omega)]
        exact ⟨rfl, rfl, by rw [em2, em1]⟩
      · refine zT.iload 4 dX13_add_37 rfl ?_
        refine zT.iconst dX13_add_39 ?_
        refine zT.aload_n 0 dX13_add_40 rfl rfl ?_
        refine zT.getF dX13_add_41 fX13_13 rfl (zMod.k hb) (j := 14) (by decide) rfl (zMod.f1014 hb) ?_
        refine zT.iconst dX13_add_44 ?_
        refine zT.iald dX13_add_45 (zMod.a1014 hb) (by first | assumption | exact zq_i _ | exact zand_i _ _ | exact zor_i _ _ | exact zN _ | omega) (by rw [(zMod.n1014 hb)]; first | assumption | exact zq_i _ | exact zand_i _ _ | exact zor_i _ _ | exact zN _ | omega) (fun z45 => ?_)
        refine zT.iconst dX13_add_46 ?_
        refine zT.isub dX13_add_47 ?_
        refine zT.callS (M' := mX13_isIn) [zI a, zI 0, zI ((m2 (b + 2) 0) - 1)] [] dX13_add_48 kX13_189 rfl rfl (C_X13_isIn (by first | assumption | exact zq_i _ | exact zand_i _ _ | exact zor_i _ _ | exact zN _ | omega) (by first | assumption | exact zq_i _ | exact zand_i _ _ | exact zor_i _ _ | exact zN _ | omega) (by first | assumption | exact zq_i _ | exact zand_i _ _ | exact zor_i _ _ | exact zN _ | omega)) (by decide) (k' := 0) (n' := 0) (by omega) (by omega) (by decide) (zdk (v := some (zI (zq (0 ≤ a ∧ a ≤ ((m2 (b + 2) 0) - 1))))) ?_) (fun _ _ _ _ h => h.elim)
        show zT G _ _ _ _ [zI (zq (0 ≤ a ∧ a ≤ ((m2 (b + 2) 0) - 1)))] _ _ _ _ _ _
        refine zT.if_eqB (tgt := 75) dX13_add_51 (by decide) (fun c51 => ?_) (fun c51 => ?_)
        · refine zT.iconst dX13_add_75 ?_
          refine zT.iret dX13_add_76 rfl ?_
          rw [eQ9]
          rw [if_neg (by omega), if_neg (by omega)]
          exact ⟨rfl, rfl, by rw [em2, em1]⟩
        · refine zT.iload 5 dX13_add_54 rfl ?_
          refine zT.iconst dX13_add_56 ?_
          refine zT.bipush dX13_add_57 ?_
          refine zT.callS (M' := mX13_isIn) [zI n, zI 1, zI 20] [] dX13_add_59 kX13_189 rfl rfl (C_X13_isIn (by first | assumption | exact zq_i _ | exact zand_i _ _ | exact zor_i _ _ | exact zN _ | omega) (by first | assumption | exact zq_i _ | exact zand_i _ _ | exact zor_i _ _ | exact zN _ | omega) (by first | assumption | exact zq_i _ | exact zand_i _ _ | exact zor_i _ _ | exact zN _ | omega)) (by decide) (k' := 0) (n' := 0) (by omega) (by omega) (by decide) (zdk (v := some (zI (zq (1 ≤ n ∧ n ≤ 20)))) ?_) (fun _ _ _ _ h => h.elim)
          show zT G _ _ _ _ [zI (zq (1 ≤ n ∧ n ≤ 20))] _ _ _ _ _ _
          refine zT.if_eqB (tgt := 75) dX13_add_62 (by decide) (fun c62 => ?_) (fun c62 => ?_)
          · refine zT.iconst dX13_add_75 ?_
            refine zT.iret dX13_add_76 rfl ?_
            rw [eQ9]
            rw [if_neg (by omega), if_neg (by omega)]
            exact ⟨rfl, rfl, by rw [em2, em1]⟩
          · refine zT.aload_n 0 dX13_add_65 rfl rfl ?_
            refine zT.callV (M' := mX13_goes) (b := b) [] [] dX13_add_66 kX13_284 rfl rfl (ci := 10) (r := (RX13, TX13, 62)) rfl (zMod.k hb) (C_X13_goes hb) (by decide) (k' := 0) (n' := 0) (by omega) (by omega) (by decide) (zdk (v := some (zI (m2 (b + 2) (58)))) ?_) (fun _ _ _ _ h => h.elim)
            show zT G _ _ _ _ [zI (m2 (b + 2) (58))] _ _ _ _ _ _
            refine zT.sipush dX13_add_69 ?_
            refine zT.ic_ne (tgt := 77) dX13_add_72 (by decide) (by first | assumption | exact zq_i _ | exact zand_i _ _ | exact zor_i _ _ | exact zN _ | omega) (by first | assumption | exact zq_i _ | exact zand_i _ _ | exact zor_i _ _ | exact zN _ | omega) (fun c72 => ?_) (fun c72 => ?_)
            · refine zT.aload_n 0 dX13_add_77 rfl rfl ?_
              refine zT.callV (M' := mX13_snap) (b := b) [] [] dX13_add_78 kX13_290 rfl rfl (ci := 10) (r := (RX13, TX13, 62)) rfl (zMod.k hb) (C_X13_snap hb (by rw [em2, ylaid_f (by decide), em1, zup_ne (by omega)]; omega) (by rw [em2, ylaid_f (by decide), em1, zup_ne (by omega)]; omega)) (by decide) (k' := 0) (n' := 0) (by omega) (by omega) (by decide) (zdk (v := none) ?_) (fun _ _ _ _ h => h.elim)
              show zT G _ _ _ _ [] _ _ _ _ _ _
              obtain ⟨m3, em3⟩ : ∃ z, z = ysnap m2 b := ⟨_, rfl⟩
              rw [← em3]
              have ym3 : yL m3 b A := ym2.row (fun j => by rw [em3]; exact ysnap_2)
              have nm3 := ym3.1.n
              have sm3 := ym3.1.s
              have rm3 := ym3.1.r
              refine zT.aload_n 0 dX13_add_81 rfl rfl ?_
              refine zT.iload_n 1 dX13_add_82 rfl rfl ?_
              refine zT.iload_n 2 dX13_add_83 rfl rfl ?_
              refine zT.iload_n 3 dX13_add_84 rfl rfl ?_
              refine zT.iload 4 dX13_add_85 rfl ?_
              refine zT.iload 5 dX13_add_87 rfl ?_
              refine zT.callV (M' := mX13_lays) (b := b) [zI s, zI c, zI f, zI a, zI n] [] dX13_add_89 kX13_293 rfl rfl (ci := 10) (r := (RX13, TX13, 62)) rfl (zMod.k hb) (C_X13_lays hb (by omega) (by omega) (by omega) (by omega) (by omega) (by omega) (by omega)) (by decide) (k' := 0) (n' := 0) (by omega) (by omega) (by decide) (zdk (v := none) ?_) (fun _ _ _ _ h => h.elim)
              show zT G _ _ _ _ [] _ _ _ _ _ _
              obtain ⟨m4, em4⟩ : ∃ z, z = ylay m3 b s c f a n := ⟨_, rfl⟩
              rw [← em4]
              refine zT.aload_n 0 dX13_add_92 rfl rfl ?_
              refine zT.callV (M' := mX13_goes) (b := b) [] [] dX13_add_93 kX13_284 rfl rfl (ci := 10) (r := (RX13, TX13, 62)) rfl (zMod.k hb) (C_X13_goes hb) (by decide) (k' := 0) (n' := 0) (by omega) (by omega) (by decide) (zdk (v := some (zI (m4 (b + 2) (58)))) ?_) (fun _ _ _ _ h => h.elim)
              show zT G _ _ _ _ [zI (m4 (b + 2) (58))] _ _ _ _ _ _
              refine zT.iconst dX13_add_96 ?_
              refine zT.isub dX13_add_97 ?_
              refine zT.iret dX13_add_98 rfl ?_
              rw [eQ9]
              rw [if_pos (by omega), if_pos (by omega)]
              refine ⟨?_, rfl, by rw [em4, em3, em2, em1]⟩
              rw [em4]
              unfold ylay
              rw [zup_at, nm3]
              congr 2
              omega
            · refine zT.iconst dX13_add_75 ?_
              refine zT.iret dX13_add_76 rfl ?_
              rw [eQ9]
              rw [if_neg (by omega), if_neg (by omega)]
              exact ⟨rfl, rfl, by rw [em2, em1]⟩

