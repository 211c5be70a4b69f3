/-! PanSlices: put putNumber putName write (written by gen/m_text.py) -/
theorem C_X1_put {G : zG} {S : zS} {m : zMm} {x : Int} {A : zMm} {t : zTt} (hR : rel S m x (uTx A t)) {c : Int} (hc : 0 ≤ c ∧ c ≤ 127) (hn : t.1 < 8000) : zC G mX1_put 0 0 0 [zR x, zI c] S m (zPo S m x none (uTx A (tPut t c))) zNX := by
  have t1 := hR.tx.1
  have w1 := hR.vtx.1
  rw [uTx_n] at t1 w1
  refine zC.of [zR x, zI c] (by decide) rfl (zEn1 (zcR _) (zEn1 (zcI _) (zEn0 (by simp)))) rfl ?_
  refine zT.aload_n 0 dX1_put_0 rfl rfl ?_
  refine zT.getF dX1_put_1 fX1_100 rfl (zPan.k hR.sh) (j := 14) (by decide) rfl (zPan.f14 hR.sh) ?_
  refine zT.aload_n 0 dX1_put_4 rfl rfl ?_
  refine zT.getI dX1_put_5 fX1_307 rfl (zPan.k hR.sh) (j := 15) (by decide) rfl (fun z5 => ?_)
  refine zT.iload_n 1 dX1_put_8 rfl rfl ?_
  refine zT.i2b dX1_put_9 ?_
  refine zT.bast dX1_put_10 (zPan.a14 hR.sh) (by first | assumption | exact zq_i _ | exact zand_i _ _ | exact zor_i _ _ | exact zxor_i _ _ | exact zN _ | omega) (by rw [(zPan.n14 hR.sh)]; first | assumption | exact zq_i _ | exact zand_i _ _ | exact zor_i _ _ | exact zxor_i _ _ | exact zN _ | omega) ?_
  obtain ⟨m1, em1⟩ : ∃ z, z = zup m (x + 28) (m x 15) ((c.bmod 256).bmod 256) := ⟨_, rfl⟩
  rw [← em1]
  refine zT.aload_n 0 dX1_put_11 rfl rfl ?_
  refine zT.dup dX1_put_12 (zcR _) ?_
  refine zT.getI dX1_put_13 fX1_307 rfl (zPan.k hR.sh) (j := 15) (by decide) rfl (fun z13 => ?_)
  have r13 : m1 x 15 = m x 15 := by rw [em1, zup_ne (by omega)]
  rw [r13] at z13 ⊢
  refine zT.iconst dX1_put_16 ?_
  refine zT.iadd dX1_put_17 ?_
  refine zT.putI dX1_put_18 fX1_307 zs_15 rfl (zPan.k hR.sh) (j := 15) (by decide) rfl (by first | assumption | exact zq_i _ | exact zand_i _ _ | exact zor_i _ _ | exact zxor_i _ _ | exact zN _ | omega) ?_
  obtain ⟨m2, em2⟩ : ∃ z, z = zup m1 x 15 ((m x 15) + 1) := ⟨_, rfl⟩
  rw [← em2]
  refine zT.vret dX1_put_21 rfl ?_
  refine ⟨rfl, zGr.rf, ?_, ?_⟩
  · rw [em2, em1]
    exact hR.txp hc hn (by rw [Int.bmod_bmod]; exact Int.bmod_eq_of_le_mul_two (by omega) (by omega))
  · rw [em2, em1]
    exact (zOut.rf.up (by omega)).up (by omega)

theorem C_X1_putNumber1 {G : zG} {S : zS} {m : zMm} {x : Int} {A : zMm} {t : zTt} (hR : rel S m x (uTx A t)) {n : Int} (h0 : 0 ≤ n) (h1 : n ≤ 9) (hn : t.1 + 4 < 8000) : zC G mX1_putNumber 1 0 0 [zR x, zI n] S m (zPo S m x none (uTx A (tNum t n))) zNX := by
  have hg : zGr S S := zGr.rf
  have ho : zOut x m m := zOut.rf
  have c9 : t.1 ≤ t.1 + 0 := by omega
  refine zC.of [zR x, zI n, zU] (by decide) rfl (zEn1 (zcR _) (zEn1 (zcI _) (zEn0 (by simp)))) rfl ?_
  refine zT.aload_n 0 dX1_putNumber_0 rfl rfl ?_
  refine zT.bipush dX1_putNumber_1 ?_
  refine zT.callV (M' := mX1_put) (b := x) [zI 32] [] dX1_putNumber_3 kX1_310 rfl rfl (ci := 0) (r := (RX1, TX1, 42)) rfl (zPan.k hR.sh) (C_X1_put hR (by omega) (by omega)) (by decide) (k' := 0) (n' := 0) (by omega) (by omega) (by decide) (fun v3 S3_ m3_ h3 => ?_) (fun _ _ _ _ h => h.elim)
  obtain ⟨rfl, g9, hQ9, o9⟩ := h3
  have hg := hg.tr g9
  have ho := ho.tr o9
  have c9 : (tPut t 32).1 ≤ t.1 + 1 := by have q9 := c9; rw [tPut_1]; omega
  show zT G _ _ _ _ [] _ _ _ _ _ _
  refine zT.iconst dX1_putNumber_6 ?_
  refine zT.istore_n 2 dX1_putNumber_7 rfl (by decide) (zpre1 rfl (zcI _)) ?_
  show zT G _ _ _ [zR x, zI n, zI 1] _ _ _ _ _ _ _
  refine zT.iload_n 1 dX1_putNumber_8 rfl rfl ?_
  refine zT.iload_n 2 dX1_putNumber_9 rfl rfl ?_
  refine zT.idiv dX1_putNumber_10 (by first | assumption | exact zq_i _ | exact zand_i _ _ | exact zor_i _ _ | exact zxor_i _ _ | exact zN _ | omega) (by first | assumption | exact zq_i _ | exact zand_i _ _ | exact zor_i _ _ | exact zxor_i _ _ | exact zN _ | omega) (by first | assumption | exact zq_i _ | exact zand_i _ _ | exact zor_i _ _ | exact zxor_i _ _ | exact zN _ | omega) (by first | assumption | exact zq_i _ | exact zand_i _ _ | exact zor_i _ _ | exact zxor_i _ _ | exact zN _ | omega) ?_
  refine zT.bipush dX1_putNumber_11 ?_
  refine zT.ic_lt (tgt := 24) dX1_putNumber_13 (by decide) (by first | assumption | exact zq_i _ | exact zand_i _ _ | exact zor_i _ _ | exact zxor_i _ _ | exact zN _ | omega) (by first | assumption | exact zq_i _ | exact zand_i _ _ | exact zor_i _ _ | exact zxor_i _ _ | exact zN _ | omega) (fun c13 => ?_) (fun c13 => by omega)
  refine zT.iload_n 2 dX1_putNumber_24 rfl rfl ?_
  refine zT.if_le (tgt := 49) dX1_putNumber_25 (by decide) (by first | assumption | exact zq_i _ | exact zand_i _ _ | exact zor_i _ _ | exact zxor_i _ _ | exact zN _ | omega) (fun c25 => absurd c25 (by decide)) (fun c25 => ?_)
  refine zT.aload_n 0 dX1_putNumber_28 rfl rfl ?_
  refine zT.bipush dX1_putNumber_29 ?_
  refine zT.iload_n 1 dX1_putNumber_31 rfl rfl ?_
  refine zT.iload_n 2 dX1_putNumber_32 rfl rfl ?_
  refine zT.idiv dX1_putNumber_33 (by first | assumption | exact zq_i _ | exact zand_i _ _ | exact zor_i _ _ | exact zxor_i _ _ | exact zN _ | omega) (by first | assumption | exact zq_i _ | exact zand_i _ _ | exact zor_i _ _ | exact zxor_i _ _ | exact zN _ | omega) (by first | assumption | exact zq_i _ | exact zand_i _ _ | exact zor_i _ _ | exact zxor_i _ _ | exact zN _ | omega) (by first | assumption | exact zq_i _ | exact zand_i _ _ | exact zor_i _ _ | exact zxor_i _ _ | exact zN _ | omega) ?_
  refine zT.bipush dX1_putNumber_34 ?_
  refine zT.irem dX1_putNumber_36 (by first | assumption | exact zq_i _ | exact zand_i _ _ | exact zor_i _ _ | exact zxor_i _ _ | exact zN _ | omega) (by first | assumption | exact zq_i _ | exact zand_i _ _ | exact zor_i _ _ | exact zxor_i _ _ | exact zN _ | omega) (by first | assumption | exact zq_i _ | exact zand_i _ _ | exact zor_i _ _ | exact zxor_i _ _ | exact zN _ | omega) (by first | assumption | exact zq_i _ | exact zand_i _ _ | exact zor_i _ _ | exact zxor_i _ _ | exact zN _ | omega) ?_
  refine zT.iadd dX1_putNumber_37 ?_
  refine zT.callV (M' := mX1_put) (b := x) [zI (48 + ((n / 1) % 10))] [] dX1_putNumber_38 kX1_310 rfl rfl (ci := 0) (r := (RX1, TX1, 42)) rfl (zPan.k hQ9.sh) (C_X1_put hQ9 (by omega) (by omega)) (by decide) (k' := 0) (n' := 0) (by omega) (by omega) (by decide) (fun v38 S38_ m38_ h38 => ?_) (fun _ _ _ _ h => h.elim)
  obtain ⟨rfl, g9, hQ9, o9⟩ := h38
  have hg := hg.tr g9
  have ho := ho.tr o9
  have c9 : (tPut (tPut t 32) (48 + ((n / 1) % 10))).1 ≤ t.1 + 2 := by have q9 := c9; rw [tPut_1]; omega
  show zT G _ _ _ _ [] _ _ _ _ _ _
  refine zT.iload_n 2 dX1_putNumber_41 rfl rfl ?_
  refine zT.bipush dX1_putNumber_42 ?_
  refine zT.idiv dX1_putNumber_44 (by first | assumption | exact zq_i _ | exact zand_i _ _ | exact zor_i _ _ | exact zxor_i _ _ | exact zN _ | omega) (by first | assumption | exact zq_i _ | exact zand_i _ _ | exact zor_i _ _ | exact zxor_i _ _ | exact zN _ | omega) (by first | assumption | exact zq_i _ | exact zand_i _ _ | exact zor_i _ _ | exact zxor_i _ _ | exact zN _ | omega) (by first | assumption | exact zq_i _ | exact zand_i _ _ | exact zor_i _ _ | exact zxor_i _ _ | exact zN _ | omega) ?_
  show zT G _ _ _ _ [zI 0] _ _ _ _ _ _
  refine zT.istore_n 2 dX1_putNumber_45 rfl (by decide) (zpre1 rfl (zcI _)) ?_
  show zT G _ _ _ [zR x, zI n, zI 0] _ _ _ _ _ _ _
  refine zT.goto (tgt := 24) dX1_putNumber_46 (by decide) ?_
  refine zT.iload_n 2 dX1_putNumber_24 rfl rfl ?_
  refine zT.if_le (tgt := 49) dX1_putNumber_25 (by decide) (by first | assumption | exact zq_i _ | exact zand_i _ _ | exact zor_i _ _ | exact zxor_i _ _ | exact zN _ | omega) (fun c25 => ?_) (fun c25 => absurd c25 (by decide))
  refine zT.vret dX1_putNumber_49 rfl ?_
  have e1 : 48 + n / 1 % 10 = 48 + n % 10 := by omega
  refine ⟨rfl, hg, ?_, ho⟩
  unfold tNum tN3 tN2
  rw [if_neg (by omega), if_neg (by omega)]
  rw [e1] at hQ9
  exact hQ9

theorem C_X1_putNumber2 {G : zG} {S : zS} {m : zMm} {x : Int} {A : zMm} {t : zTt} (hR : rel S m x (uTx A t)) {n : Int} (h0 : 10 ≤ n) (h1 : n ≤ 99) (hn : t.1 + 4 < 8000) : zC G mX1_putNumber 1 0 0 [zR x, zI n] S m (zPo S m x none (uTx A (tNum t n))) zNX := by
  have hg : zGr S S := zGr.rf
  have ho : zOut x m m := zOut.rf
  have c9 : t.1 ≤ t.1 + 0 := by omega
  refine zC.of [zR x, zI n, zU] (by decide) rfl (zEn1 (zcR _) (zEn1 (zcI _) (zEn0 (by simp)))) rfl ?_
  refine zT.aload_n 0 dX1_putNumber_0 rfl rfl ?_
  refine zT.bipush dX1_putNumber_1 ?_
  refine zT.callV (M' := mX1_put) (b := x) [zI 32] [] dX1_putNumber_3 kX1_310 rfl rfl (ci := 0) (r := (RX1, TX1, 42)) rfl (zPan.k hR.sh) (C_X1_put hR (by omega) (by omega)) (by decide) (k' := 0) (n' := 0) (by omega) (by omega) (by decide) (fun v3 S3_ m3_ h3 => ?_) (fun _ _ _ _ h => h.elim)
  obtain ⟨rfl, g9, hQ9, o9⟩ := h3
  have hg := hg.tr g9
  have ho := ho.tr o9
  have c9 : (tPut t 32).1 ≤ t.1 + 1 := by have q9 := c9; rw [tPut_1]; omega
  show zT G _ _ _ _ [] _ _ _ _ _ _
  refine zT.iconst dX1_putNumber_6 ?_
  refine zT.istore_n 2 dX1_putNumber_7 rfl (by decide) (zpre1 rfl (zcI _)) ?_
  show zT G _ _ _ [zR x, zI n, zI 1] _ _ _ _ _ _ _
  refine zT.iload_n 1 dX1_putNumber_8 rfl rfl ?_
  refine zT.iload_n 2 dX1_putNumber_9 rfl rfl ?_
  refine zT.idiv dX1_putNumber_10 (by first | assumption | exact zq_i _ | exact zand_i _ _ | exact zor_i _ _ | exact zxor_i _ _ | exact zN _ | omega) (by first | assumption | exact zq_i _ | exact zand_i _ _ | exact zor_i _ _ | exact zxor_i _ _ | exact zN _ | omega) (by first | assumption | exact zq_i _ | exact zand_i _ _ | exact zor_i _ _ | exact zxor_i _ _ | exact zN _ | omega) (by first | assumption | exact zq_i _ | exact zand_i _ _ | exact zor_i _ _ | exact zxor_i _ _ | exact zN _ | omega) ?_
  refine zT.bipush dX1_putNumber_11 ?_
  refine zT.ic_lt (tgt := 24) dX1_putNumber_13 (by decide) (by first | assumption | exact zq_i _ | exact zand_i _ _ | exact zor_i _ _ | exact zxor_i _ _ | exact zN _ | omega) (by first | assumption | exact zq_i _ | exact zand_i _ _ | exact zor_i _ _ | exact zxor_i _ _ | exact zN _ | omega) (fun c13 => by omega) (fun c13 => ?_)
  refine zT.iload_n 2 dX1_putNumber_16 rfl rfl ?_
  refine zT.bipush dX1_putNumber_17 ?_
  refine zT.imul dX1_putNumber_19 ?_
  show zT G _ _ _ _ [zI 10] _ _ _ _ _ _
  refine zT.istore_n 2 dX1_putNumber_20 rfl (by decide) (zpre1 rfl (zcI _)) ?_
  show zT G _ _ _ [zR x, zI n, zI 10] _ _ _ _ _ _ _
  refine zT.goto (tgt := 8) dX1_putNumber_21 (by decide) ?_
  refine zT.iload_n 1 dX1_putNumber_8 rfl rfl ?_
  refine zT.iload_n 2 dX1_putNumber_9 rfl rfl ?_
  refine zT.idiv dX1_putNumber_10 (by first | assumption | exact zq_i _ | exact zand_i _ _ | exact zor_i _ _ | exact zxor_i _ _ | exact zN _ | omega) (by first | assumption | exact zq_i _ | exact zand_i _ _ | exact zor_i _ _ | exact zxor_i _ _ | exact zN _ | omega) (by first | assumption | exact zq_i _ | exact zand_i _ _ | exact zor_i _ _ | exact zxor_i _ _ | exact zN _ | omega) (by first | assumption | exact zq_i _ | exact zand_i _ _ | exact zor_i _ _ | exact zxor_i _ _ | exact zN _ | omega) ?_
  refine zT.bipush dX1_putNumber_11 ?_
  refine zT.ic_lt (tgt := 24) dX1_putNumber_13 (by decide) (by first | assumption | exact zq_i _ | exact zand_i _ _ | exact zor_i _ _ | exact zxor_i _ _ | exact zN _ | omega) (by first | assumption | exact zq_i _ | exact zand_i _ _ | exact zor_i _ _ | exact zxor_i _ _ | exact zN _ | omega) (fun c13 => ?_) (fun c13 => by omega)
  refine zT.iload_n 2 dX1_putNumber_24 rfl rfl ?_
  refine zT.if_le (tgt := 49) dX1_putNumber_25 (by decide) (by first | assumption | exact zq_i _ | exact zand_i _ _ | exact zor_i _ _ | exact zxor_i _ _ | exact zN _ | omega) (fun c25 => absurd c25 (by decide)) (fun c25 => ?_)
  refine zT.aload_n 0 dX1_putNumber_28 rfl rfl ?_
  refine zT.bipush dX1_putNumber_29 ?_
  refine zT.iload_n 1 dX1_putNumber_31 rfl rfl ?_
  refine zT.iload_n 2 dX1_putNumber_32 rfl rfl ?_
  refine zT.idiv dX1_putNumber_33 (by first | assumption | exact zq_i _ | exact zand_i _ _ | exact zor_i _ _ | exact zxor_i _ _ | exact zN _ | omega) (by first | assumption | exact zq_i _ | exact zand_i _ _ | exact zor_i _ _ | exact zxor_i _ _ | exact zN _ | omega) (by first | assumption | exact zq_i _ | exact zand_i _ _ | exact zor_i _ _ | exact zxor_i _ _ | exact zN _ | omega) (by first | assumption | exact zq_i _ | exact zand_i _ _ | exact zor_i _ _ | exact zxor_i _ _ | exact zN _ | omega) ?_
  refine zT.bipush dX1_putNumber_34 ?_
  refine zT.irem dX1_putNumber_36 (by first | assumption | exact zq_i _ | exact zand_i _ _ | exact zor_i _ _ | exact zxor_i _ _ | exact zN _ | omega) (by first | assumption | exact zq_i _ | exact zand_i _ _ | exact zor_i _ _ | exact zxor_i _ _ | exact zN _ | omega) (by first | assumption | exact zq_i _ | exact zand_i _ _ | exact zor_i _ _ | exact zxor_i _ _ | exact zN _ | omega) (by first | assumption | exact zq_i _ | exact zand_i _ _ | exact zor_i _ _ | exact zxor_i _ _ | exact zN _ | omega) ?_
  refine zT.iadd dX1_putNumber_37 ?_
  refine zT.callV (M' := mX1_put) (b := x) [zI (48 + ((n / 10) % 10))] [] dX1_putNumber_38 kX1_310 rfl rfl (ci := 0) (r := (RX1, TX1, 42)) rfl (zPan.k hQ9.sh) (C_X1_put hQ9 (by omega) (by omega)) (by decide) (k' := 0) (n' := 0) (by omega) (by omega) (by decide) (fun v38 S38_ m38_ h38 => ?_) (fun _ _ _ _ h => h.elim)
  obtain ⟨rfl, g9, hQ9, o9⟩ := h38
  have hg := hg.tr g9
  have ho := ho.tr o9
  have c9 : (tPut (tPut t 32) (48 + ((n / 10) % 10))).1 ≤ t.1 + 2 := by have q9 := c9; rw [tPut_1]; omega
  show zT G _ _ _ _ [] _ _ _ _ _ _
  refine zT.iload_n 2 dX1_putNumber_41 rfl rfl ?_
  refine zT.bipush dX1_putNumber_42 ?_
  refine zT.idiv dX1_putNumber_44 (by first | assumption | exact zq_i _ | exact zand_i _ _ | exact zor_i _ _ | exact zxor_i _ _ | exact zN _ | omega) (by first | assumption | exact zq_i _ | exact zand_i _ _ | exact zor_i _ _ | exact zxor_i _ _ | exact zN _ | omega) (by first | assumption | exact zq_i _ | exact zand_i _ _ | exact zor_i _ _ | exact zxor_i _ _ | exact zN _ | omega) (by first | assumption | exact zq_i _ | exact zand_i _ _ | exact zor_i _ _ | exact zxor_i _ _ | exact zN _ | omega) ?_
  show zT G _ _ _ _ [zI 1] _ _ _ _ _ _
  refine zT.istore_n 2 dX1_putNumber_45 rfl (by decide) (zpre1 rfl (zcI _)) ?_
  show zT G _ _ _ [zR x, zI n, zI 1] _ _ _ _ _ _ _
  refine zT.goto (tgt := 24) dX1_putNumber_46 (by decide) ?_
  refine zT.iload_n 2 dX1_putNumber_24 rfl rfl ?_
  refine zT.if_le (tgt := 49) dX1_putNumber_25 (by decide) (by first | assumption | exact zq_i _ | exact zand_i _ _ | exact zor_i _ _ | exact zxor_i _ _ | exact zN _ | omega) (fun c25 => absurd c25 (by decide)) (fun c25 => ?_)
  refine zT.aload_n 0 dX1_putNumber_28 rfl rfl ?_
  refine zT.bipush dX1_putNumber_29 ?_
  refine zT.iload_n 1 dX1_putNumber_31 rfl rfl ?_
  refine zT.iload_n 2 dX1_putNumber_32 rfl rfl ?_
  refine zT.idiv dX1_putNumber_33 (by first | assumption | exact zq_i _ | exact zand_i _ _ | exact zor_i _ _ | exact zxor_i _ _ | exact zN _ | omega) (by first | assumption | exact zq_i _ | exact zand_i _ _ | exact zor_i _ _ | exact zxor_i _ _ | exact zN _ | omega) (by first | assumption | exact zq_i _ | exact zand_i _ _ | exact zor_i _ _ | exact zxor_i _ _ | exact zN _ | omega) (by first | assumption | exact zq_i _ | exact zand_i _ _ | exact zor_i _ _ | exact zxor_i _ _ | exact zN _ | omega) ?_
  refine zT.bipush dX1_putNumber_34 ?_
  refine zT.irem dX1_putNumber_36 (by first | assumption | exact zq_i _ | exact zand_i _ _ | exact zor_i _ _ | exact zxor_i _ _ | exact zN _ | omega) (by first | assumption | exact zq_i _ | exact zand_i _ _ | exact zor_i _ _ | exact zxor_i _ _ | exact zN _ | omega) (by first | assumption | exact zq_i _ | exact zand_i _ _ | exact zor_i _ _ | exact zxor_i _ _ | exact zN _ | omega) (by first | assumption | exact zq_i _ | exact zand_i _ _ | exact zor_i _ _ | exact zxor_i _ _ | exact zN _ | omega) ?_
  refine zT.iadd dX1_putNumber_37 ?_
  refine zT.callV (M' := mX1_put) (b := x) [zI (48 + ((n / 1) % 10))] [] dX1_putNumber_38 kX1_310 rfl rfl (ci := 0) (r := (RX1, TX1, 42)) rfl (zPan.k hQ9.sh) (C_X1_put hQ9 (by omega) (by omega)) (by decide) (k' := 0) (n' := 0) (by omega) (by omega) (by decide) (fun v38 S38_ m38_ h38 => ?_) (fun _ _ _ _ h => h.elim)
  obtain ⟨rfl, g9, hQ9, o9⟩ := h38
  have hg := hg.tr g9
  have ho := ho.tr o9
  have c9 : (tPut (tPut (tPut t 32) (48 + ((n / 10) % 10))) (48 + ((n / 1) % 10))).1 ≤ t.1 + 3 := by have q9 := c9; rw [tPut_1]; omega
  show zT G _ _ _ _ [] _ _ _ _ _ _
  refine zT.iload_n 2 dX1_putNumber_41 rfl rfl ?_
  refine zT.bipush dX1_putNumber_42 ?_
  refine zT.idiv dX1_putNumber_44 (by first | assumption | exact zq_i _ | exact zand_i _ _ | exact zor_i _ _ | exact zxor_i _ _ | exact zN _ | omega) (by first | assumption | exact zq_i _ | exact zand_i _ _ | exact zor_i _ _ | exact zxor_i _ _ | exact zN _ | omega) (by first | assumption | exact zq_i _ | exact zand_i _ _ | exact zor_i _ _ | exact zxor_i _ _ | exact zN _ | omega) (by first | assumption | exact zq_i _ | exact zand_i _ _ | exact zor_i _ _ | exact zxor_i _ _ | exact zN _ | omega) ?_
  show zT G _ _ _ _ [zI 0] _ _ _ _ _ _
  refine zT.istore_n 2 dX1_putNumber_45 rfl (by decide) (zpre1 rfl (zcI _)) ?_
  show zT G _ _ _ [zR x, zI n, zI 0] _ _ _ _ _ _ _
  refine zT.goto (tgt := 24) dX1_putNumber_46 (by decide) ?_
  refine zT.iload_n 2 dX1_putNumber_24 rfl rfl ?_
  refine zT.if_le (tgt := 49) dX1_putNumber_25 (by decide) (by first | assumption | exact zq_i _ | exact zand_i _ _ | exact zor_i _ _ | exact zxor_i _ _ | exact zN _ | omega) (fun c25 => ?_) (fun c25 => absurd c25 (by decide))
  refine zT.vret dX1_putNumber_49 rfl ?_
  have e1 : 48 + n / 1 % 10 = 48 + n % 10 := by omega
  refine ⟨rfl, hg, ?_, ho⟩
  unfold tNum tN3 tN2
  rw [if_pos (by omega), if_neg (by omega)]
  rw [e1] at hQ9
  exact hQ9

theorem C_X1_putNumber3 {G : zG} {S : zS} {m : zMm} {x : Int} {A : zMm} {t : zTt} (hR : rel S m x (uTx A t)) {n : Int} (h0 : 100 ≤ n) (h1 : n ≤ 999) (hn : t.1 + 4 < 8000) : zC G mX1_putNumber 1 0 0 [zR x, zI n] S m (zPo S m x none (uTx A (tNum t n))) zNX := by
  have hg : zGr S S := zGr.rf
  have ho : zOut x m m := zOut.rf
  have c9 : t.1 ≤ t.1 + 0 := by omega
  refine zC.of [zR x, zI n, zU] (by decide) rfl (zEn1 (zcR _) (zEn1 (zcI _) (zEn0 (by simp)))) rfl ?_
  refine zT.aload_n 0 dX1_putNumber_0 rfl rfl ?_
  refine zT.bipush dX1_putNumber_1 ?_
  refine zT.callV (M' := mX1_put) (b := x) [zI 32] [] dX1_putNumber_3 kX1_310 rfl rfl (ci := 0) (r := (RX1, TX1, 42)) rfl (zPan.k hR.sh) (C_X1_put hR (by omega) (by omega)) (by decide) (k' := 0) (n' := 0) (by omega) (by omega) (by decide) (fun v3 S3_ m3_ h3 => ?_) (fun _ _ _ _ h => h.elim)
  obtain ⟨rfl, g9, hQ9, o9⟩ := h3
  have hg := hg.tr g9
  have ho := ho.tr o9
  have c9 : (tPut t 32).1 ≤ t.1 + 1 := by have q9 := c9; rw [tPut_1]; omega
  show zT G _ _ _ _ [] _ _ _ _ _ _
  refine zT.iconst dX1_putNumber_6 ?_
  refine zT.istore_n 2 dX1_putNumber_7 rfl (by decide) (zpre1 rfl (zcI _)) ?_
  show zT G _ _ _ [zR x, zI n, zI 1] _ _ _ _ _ _ _
  refine zT.iload_n 1 dX1_putNumber_8 rfl rfl ?_
  refine zT.iload_n 2 dX1_putNumber_9 rfl rfl ?_
  refine zT.idiv dX1_putNumber_10 (by first | assumption | exact zq_i _ | exact zand_i _ _ | exact zor_i _ _ | exact zxor_i _ _ | exact zN _ | omega) (by first | assumption | exact zq_i _ | exact zand_i _ _ | exact zor_i _ _ | exact zxor_i _ _ | exact zN _ | omega) (by first | assumption | exact zq_i _ | exact zand_i _ _ | exact zor_i _ _ | exact zxor_i _ _ | exact zN _ | omega) (by first | assumption | exact zq_i _ | exact zand_i _ _ | exact zor_i _ _ | exact zxor_i _ _ | exact zN _ | omega) ?_
  refine zT.bipush dX1_putNumber_11 ?_
  refine zT.ic_lt (tgt := 24) dX1_putNumber_13 (by decide) (by first | assumption | exact zq_i _ | exact zand_i _ _ | exact zor_i _ _ | exact zxor_i _ _ | exact zN _ | omega) (by first | assumption | exact zq_i _ | exact zand_i _ _ | exact zor_i _ _ | exact zxor_i _ _ | exact zN _ | omega) (fun c13 => by omega) (fun c13 => ?_)
  refine zT.iload_n 2 dX1_putNumber_16 rfl rfl ?_
  refine zT.bipush dX1_putNumber_17 ?_
  refine zT.imul dX1_putNumber_19 ?_
  show zT G _ _ _ _ [zI 10] _ _ _ _ _ _
  refine zT.istore_n 2 dX1_putNumber_20 rfl (by decide) (zpre1 rfl (zcI _)) ?_
  show zT G _ _ _ [zR x, zI n, zI 10] _ _ _ _ _ _ _
  refine zT.goto (tgt := 8) dX1_putNumber_21 (by decide) ?_
  refine zT.iload_n 1 dX1_putNumber_8 rfl rfl ?_
  refine zT.iload_n 2 dX1_putNumber_9 rfl rfl ?_
  refine zT.idiv dX1_putNumber_10 (by first | assumption | exact zq_i _ | exact zand_i _ _ | exact zor_i _ _ | exact zxor_i _ _ | exact zN _ | omega) (by first | assumption | exact zq_i _ | exact zand_i _ _ | exact zor_i _ _ | exact zxor_i _ _ | exact zN _ | omega) (by first | assumption | exact zq_i _ | exact zand_i _ _ | exact zor_i _ _ | exact zxor_i _ _ | exact zN _ | omega) (by first | assumption | exact zq_i _ | exact zand_i _ _ | exact zor_i _ _ | exact zxor_i _ _ | exact zN _ | omega) ?_
  refine zT.bipush dX1_putNumber_11 ?_
  refine zT.ic_lt (tgt := 24) dX1_putNumber_13 (by decide) (by first | assumption | exact zq_i _ | exact zand_i _ _ | exact zor_i _ _ | exact zxor_i _ _ | exact zN _ | omega) (by first | assumption | exact zq_i _ | exact zand_i _ _ | exact zor_i _ _ | exact zxor_i _ _ | exact zN _ | omega) (fun c13 => by omega) (fun c13 => ?_)
  refine zT.iload_n 2 dX1_putNumber_16 rfl rfl ?_
  refine zT.bipush dX1_putNumber_17 ?_
  refine zT.imul dX1_putNumber_19 ?_
  show zT G _ _ _ _ [zI 100] _ _ _ _ _ _
  refine zT.istore_n 2 dX1_putNumber_20 rfl (by decide) (zpre1 rfl (zcI _)) ?_
  show zT G _ _ _ [zR x, zI n, zI 100] _ _ _ _ _ _ _
  refine zT.goto (tgt := 8) dX1_putNumber_21 (by decide) ?_
  refine zT.iload_n 1 dX1_putNumber_8 rfl rfl ?_
  refine zT.iload_n 2 dX1_putNumber_9 rfl rfl ?_
  refine zT.idiv dX1_putNumber_10 (by first | assumption | exact zq_i _ | exact zand_i _ _ | exact zor_i _ _ | exact zxor_i _ _ | exact zN _ | omega) (by first | assumption | exact zq_i _ | exact zand_i _ _ | exact zor_i _ _ | exact zxor_i _ _ | exact zN _ | omega) (by first | assumption | exact zq_i _ | exact zand_i _ _ | exact zor_i _ _ | exact zxor_i _ _ | exact zN _ | omega) (by first | assumption | exact zq_i _ | exact zand_i _ _ | exact zor_i _ _ | exact zxor_i _ _ | exact zN _ | omega) ?_
  refine zT.bipush dX1_putNumber_11 ?_
  refine zT.ic_lt (tgt := 24) dX1_putNumber_13 (by decide) (by first | assumption | exact zq_i _ | exact zand_i _ _ | exact zor_i _ _ | exact zxor_i _ _ | exact zN _ | omega) (by first | assumption | exact zq_i _ | exact zand_i _ _ | exact zor_i _ _ | exact zxor_i _ _ | exact zN _ | omega) (fun c13 => ?_) (fun c13 => by omega)
  refine zT.iload_n 2 dX1_putNumber_24 rfl rfl ?_
  refine zT.if_le (tgt := 49) dX1_putNumber_25 (by decide) (by first | assumption | exact zq_i _ | exact zand_i _ _ | exact zor_i _ _ | exact zxor_i _ _ | exact zN _ | omega) (fun c25 => absurd c25 (by decide)) (fun c25 => ?_)
  refine zT.aload_n 0 dX1_putNumber_28 rfl rfl ?_
  refine zT.bipush dX1_putNumber_29 ?_
  refine zT.iload_n 1 dX1_putNumber_31 rfl rfl ?_
  refine zT.iload_n 2 dX1_putNumber_32 rfl rfl ?_
  refine zT.idiv dX1_putNumber_33 (by first | assumption | exact zq_i _ | exact zand_i _ _ | exact zor_i _ _ | exact zxor_i _ _ | exact zN _ | omega) (by first | assumption | exact zq_i _ | exact zand_i _ _ | exact zor_i _ _ | exact zxor_i _ _ | exact zN _ | omega) (by first | assumption | exact zq_i _ | exact zand_i _ _ | exact zor_i _ _ | exact zxor_i _ _ | exact zN _ | omega) (by first | assumption | exact zq_i _ | exact zand_i _ _ | exact zor_i _ _ | exact zxor_i _ _ | exact zN _ | omega) ?_
  refine zT.bipush dX1_putNumber_34 ?_
  refine zT.irem dX1_putNumber_36 (by first | assumption | exact zq_i _ | exact zand_i _ _ | exact zor_i _ _ | exact zxor_i _ _ | exact zN _ | omega) (by first | assumption | exact zq_i _ | exact zand_i _ _ | exact zor_i _ _ | exact zxor_i _ _ | exact zN _ | omega) (by first | assumption | exact zq_i _ | exact zand_i _ _ | exact zor_i _ _ | exact zxor_i _ _ | exact zN _ | omega) (by first | assumption | exact zq_i _ | exact zand_i _ _ | exact zor_i _ _ | exact zxor_i _ _ | exact zN _ | omega) ?_
  refine zT.iadd dX1_putNumber_37 ?_
  refine zT.callV (M' := mX1_put) (b := x) [zI (48 + ((n / 100) % 10))] [] dX1_putNumber_38 kX1_310 rfl rfl (ci := 0) (r := (RX1, TX1, 42)) rfl (zPan.k hQ9.sh) (C_X1_put hQ9 (by omega) (by omega)) (by decide) (k' := 0) (n' := 0) (by omega) (by omega) (by decide) (fun v38 S38_ m38_ h38 => ?_) (fun _ _ _ _ h => h.elim)
  obtain ⟨rfl, g9, hQ9, o9⟩ := h38
  have hg := hg.tr g9
  have ho := ho.tr o9
  have c9 : (tPut (tPut t 32) (48 + ((n / 100) % 10))).1 ≤ t.1 + 2 := by have q9 := c9; rw [tPut_1]; omega
  show zT G _ _ _ _ [] _ _ _ _ _ _
  refine zT.iload_n 2 dX1_putNumber_41 rfl rfl ?_
  refine zT.bipush dX1_putNumber_42 ?_
  refine zT.idiv dX1_putNumber_44 (by first | assumption | exact zq_i _ | exact zand_i _ _ | exact zor_i _ _ | exact zxor_i _ _ | exact zN _ | omega) (by first | assumption | exact zq_i _ | exact zand_i _ _ | exact zor_i _ _ | exact zxor_i _ _ | exact zN _ | omega) (by first | assumption | exact zq_i _ | exact zand_i _ _ | exact zor_i _ _ | exact zxor_i _ _ | exact zN _ | omega) (by first | assumption | exact zq_i _ | exact zand_i _ _ | exact zor_i _ _ | exact zxor_i _ _ | exact zN _ | omega) ?_
  show zT G _ _ _ _ [zI 10] _ _ _ _ _ _
  refine zT.istore_n 2 dX1_putNumber_45 rfl (by decide) (zpre1 rfl (zcI _)) ?_
  show zT G _ _ _ [zR x, zI n, zI 10] _ _ _ _ _ _ _
  refine zT.goto (tgt := 24) dX1_putNumber_46 (by decide) ?_
  refine zT.iload_n 2 dX1_putNumber_24 rfl rfl ?_
  refine zT.if_le (tgt := 49) dX1_putNumber_25 (by decide) (by first | assumption | exact zq_i _ | exact zand_i _ _ | exact zor_i _ _ | exact zxor_i _ _ | exact zN _ | omega) (fun c25 => absurd c25 (by decide)) (fun c25 => ?_)
  refine zT.aload_n 0 dX1_putNumber_28 rfl rfl ?_
  refine zT.bipush dX1_putNumber_29 ?_
  refine zT.iload_n 1 dX1_putNumber_31 rfl rfl ?_
  refine zT.iload_n 2 dX1_putNumber_32 rfl rfl ?_
  refine zT.idiv dX1_putNumber_33 (by first | assumption | exact zq_i _ | exact zand_i _ _ | exact zor_i _ _ | exact zxor_i _ _ | exact zN _ | omega) (by first | assumption | exact zq_i _ | exact zand_i _ _ | exact zor_i _ _ | exact zxor_i _ _ | exact zN _ | omega) (by first | assumption | exact zq_i _ | exact zand_i _ _ | exact zor_i _ _ | exact zxor_i _ _ | exact zN _ | omega) (by first | assumption | exact zq_i _ | exact zand_i _ _ | exact zor_i _ _ | exact zxor_i _ _ | exact zN _ | omega) ?_
  refine zT.bipush dX1_putNumber_34 ?_
  refine zT.irem dX1_putNumber_36 (by first | assumption | exact zq_i _ | exact zand_i _ _ | exact zor_i _ _ | exact zxor_i _ _ | exact zN _ | omega) (by first | assumption | exact zq_i _ | exact zand_i _ _ | exact zor_i _ _ | exact zxor_i _ _ | exact zN _ | omega) (by first | assumption | exact zq_i _ | exact zand_i _ _ | exact zor_i _ _ | exact zxor_i _ _ | exact zN _ | omega) (by first | assumption | exact zq_i _ | exact zand_i _ _ | exact zor_i _ _ | exact zxor_i _ _ | exact zN _ | omega) ?_
  refine zT.iadd dX1_putNumber_37 ?_
  refine zT.callV (M' := mX1_put) (b := x) [zI (48 + ((n / 10) % 10))] [] dX1_putNumber_38 kX1_310 rfl rfl (ci := 0) (r := (RX1, TX1, 42)) rfl (zPan.k hQ9.sh) (C_X1_put hQ9 (by omega) (by omega)) (by decide) (k' := 0) (n' := 0) (by omega) (by omega) (by decide) (fun v38 S38_ m38_ h38 => ?_) (fun _ _ _ _ h => h.elim)
  obtain ⟨rfl, g9, hQ9, o9⟩ := h38
  have hg := hg.tr g9
  have ho := ho.tr o9
  have c9 : (tPut (tPut (tPut t 32) (48 + ((n / 100) % 10))) (48 + ((n / 10) % 10))).1 ≤ t.1 + 3 := by have q9 := c9; rw [tPut_1]; omega
  show zT G _ _ _ _ [] _ _ _ _ _ _
  refine zT.iload_n 2 dX1_putNumber_41 rfl rfl ?_
  refine zT.bipush dX1_putNumber_42 ?_
  refine zT.idiv dX1_putNumber_44 (by first | assumption | exact zq_i _ | exact zand_i _ _ | exact zor_i _ _ | exact zxor_i _ _ | exact zN _ | omega) (by first | assumption | exact zq_i _ | exact zand_i _ _ | exact zor_i _ _ | exact zxor_i _ _ | exact zN _ | omega) (by first | assumption | exact zq_i _ | exact zand_i _ _ | exact zor_i _ _ | exact zxor_i _ _ | exact zN _ | omega) (by first | assumption | exact zq_i _ | exact zand_i _ _ | exact zor_i _ _ | exact zxor_i _ _ | exact zN _ | omega) ?_
  show zT G _ _ _ _ [zI 1] _ _ _ _ _ _
  refine zT.istore_n 2 dX1_putNumber_45 rfl (by decide) (zpre1 rfl (zcI _)) ?_
  show zT G _ _ _ [zR x, zI n, zI 1] _ _ _ _ _ _ _
  refine zT.goto (tgt := 24) dX1_putNumber_46 (by decide) ?_
  refine zT.iload_n 2 dX1_putNumber_24 rfl rfl ?_
  refine zT.if_le (tgt := 49) dX1_putNumber_25 (by decide) (by first | assumption | exact zq_i _ | exact zand_i _ _ | exact zor_i _ _ | exact zxor_i _ _ | exact zN _ | omega) (fun c25 => absurd c25 (by decide)) (fun c25 => ?_)
  refine zT.aload_n 0 dX1_putNumber_28 rfl rfl ?_
  refine zT.bipush dX1_putNumber_29 ?_
  refine zT.iload_n 1 dX1_putNumber_31 rfl rfl ?_
  refine zT.iload_n 2 dX1_putNumber_32 rfl rfl ?_
  refine zT.idiv dX1_putNumber_33 (by first | assumption | exact zq_i _ | exact zand_i _ _ | exact zor_i _ _ | exact zxor_i _ _ | exact zN _ | omega) (by first | assumption | exact zq_i _ | exact zand_i _ _ | exact zor_i _ _ | exact zxor_i _ _ | exact zN _ | omega) (by first | assumption | exact zq_i _ | exact zand_i _ _ | exact zor_i _ _ | exact zxor_i _ _ | exact zN _ | omega) (by first | assumption | exact zq_i _ | exact zand_i _ _ | exact zor_i _ _ | exact zxor_i _ _ | exact zN _ | omega) ?_
  refine zT.bipush dX1_putNumber_34 ?_
  refine zT.irem dX1_putNumber_36 (by first | assumption | exact zq_i _ | exact zand_i _ _ | exact zor_i _ _ | exact zxor_i _ _ | exact zN _ | omega) (by first | assumption | exact zq_i _ | exact zand_i _ _ | exact zor_i _ _ | exact zxor_i _ _ | exact zN _ | omega) (by first | assumption | exact zq_i _ | exact zand_i _ _ | exact zor_i _ _ | exact zxor_i _ _ | exact zN _ | omega) (by first | assumption | exact zq_i _ | exact zand_i _ _ | exact zor_i _ _ | exact zxor_i _ _ | exact zN _ | omega) ?_
  refine zT.iadd dX1_putNumber_37 ?_
  refine zT.callV (M' := mX1_put) (b := x) [zI (48 + ((n / 1) % 10))] [] dX1_putNumber_38 kX1_310 rfl rfl (ci := 0) (r := (RX1, TX1, 42)) rfl (zPan.k hQ9.sh) (C_X1_put hQ9 (by omega) (by omega)) (by decide) (k' := 0) (n' := 0) (by omega) (by omega) (by decide) (fun v38 S38_ m38_ h38 => ?_) (fun _ _ _ _ h => h.elim)
  obtain ⟨rfl, g9, hQ9, o9⟩ := h38
  have hg := hg.tr g9
  have ho := ho.tr o9
  have c9 : (tPut (tPut (tPut (tPut t 32) (48 + ((n / 100) % 10))) (48 + ((n / 10) % 10))) (48 + ((n / 1) % 10))).1 ≤ t.1 + 4 := by have q9 := c9; rw [tPut_1]; omega
  show zT G _ _ _ _ [] _ _ _ _ _ _
  refine zT.iload_n 2 dX1_putNumber_41 rfl rfl ?_
  refine zT.bipush dX1_putNumber_42 ?_
  refine zT.idiv dX1_putNumber_44 (by first | assumption | exact zq_i _ | exact zand_i _ _ | exact zor_i _ _ | exact zxor_i _ _ | exact zN _ | omega) (by first | assumption | exact zq_i _ | exact zand_i _ _ | exact zor_i _ _ | exact zxor_i _ _ | exact zN _ | omega) (by first | assumption | exact zq_i _ | exact zand_i _ _ | exact zor_i _ _ | exact zxor_i _ _ | exact zN _ | omega) (by first | assumption | exact zq_i _ | exact zand_i _ _ | exact zor_i _ _ | exact zxor_i _ _ | exact zN _ | omega) ?_
  show zT G _ _ _ _ [zI 0] _ _ _ _ _ _
  refine zT.istore_n 2 dX1_putNumber_45 rfl (by decide) (zpre1 rfl (zcI _)) ?_
  show zT G _ _ _ [zR x, zI n, zI 0] _ _ _ _ _ _ _
  refine zT.goto (tgt := 24) dX1_putNumber_46 (by decide) ?_
  refine zT.iload_n 2 dX1_putNumber_24 rfl rfl ?_
  refine zT.if_le (tgt := 49) dX1_putNumber_25 (by decide) (by first | assumption | exact zq_i _ | exact zand_i _ _ | exact zor_i _ _ | exact zxor_i _ _ | exact zN _ | omega) (fun c25 => ?_) (fun c25 => absurd c25 (by decide))
  refine zT.vret dX1_putNumber_49 rfl ?_
  have e1 : 48 + n / 1 % 10 = 48 + n % 10 := by omega
  refine ⟨rfl, hg, ?_, ho⟩
  unfold tNum tN3 tN2
  rw [if_pos (by omega), if_pos (by omega)]
  rw [show 48 + n / 100 % 10 = 48 + n / 100 by omega] at hQ9
  rw [e1] at hQ9
  exact hQ9

theorem C_X1_putNumber {G : zG} {S : zS} {m : zMm} {x : Int} {A : zMm} {t : zTt} (hR : rel S m x (uTx A t)) {n : Int} (h0 : 0 ≤ n ∧ n ≤ 999) (hn : t.1 + 4 < 8000) : zC G mX1_putNumber 1 0 0 [zR x, zI n] S m (zPo S m x none (uTx A (tNum t n))) zNX := by
  by_cases q : n ≤ 9
  · exact C_X1_putNumber1 hR h0.1 q hn
  · by_cases q2 : n ≤ 99
    · exact C_X1_putNumber2 hR (by omega) q2 hn
    · exact C_X1_putNumber3 hR (by omega) h0.2 hn
theorem C_X1_putName {G : zG} {S : zS} {m : zMm} {x : Int} {A : zMm} {t : zTt} (hR : rel S m x (uTx A t)) {v : Int} (hz : zj v) (hv : 0 ≤ v) (hb : ∀ k : Nat, v / 2 ^ (8 * (k : Int)).toNat % 256 ≤ 127) (hn : t.1 + 6 < 8000) : zC G mX1_putName 1 0 0 [zR x, zJ v] S m (zPo S m x none (uTx A (tNm v 6 t))) zNX := by
  obtain ⟨R, hR9⟩ : ∃ z, z = tNm v 6 t := ⟨_, rfl⟩
  have hR9 := hR9.symm
  refine zC.of [zR x, zJ v, zU, zU] (by decide) rfl (zEn1 (zcR _) (zEn2 (zcJ _) (zEn0 (by simp)))) rfl ?_
  refine zT.bipush dX1_putName_0 ?_
  refine zT.istore_n 3 dX1_putName_2 rfl (by decide) (zpreU rfl) ?_
  show zT G _ _ _ [zR x, zJ v, zU, zI 40] _ _ _ _ _ _ _
  have L3 : ∀ (N : Nat) (SA : zS) (mA : zMm) (tt : zTt) (kk : Nat) (sh : Int), (zGr S SA) → (rel SA mA x (uTx A tt)) → (zOut x m mA) → (kk ≤ 6) → (sh = 8 * (kk : Int) - 8) → (tNm v kk tt = R) → (tt.1 + kk < 8000) → kk < N → zT G mX1_putName 1 3 [zR x, zJ v, zU, zI sh] [] SA mA 0 0 (zPo S m x none (uTx A (tNm v 6 t))) zNX := by
    intro N
    induction N with
    | zero => intro SA mA tt kk sh hgA hQ hoA hk6 hsh hT hc9 hN; exact absurd hN (Nat.not_lt_zero _)
    | succ N ih3 =>
      intro SA mA tt kk sh hgA hQ hoA hk6 hsh hT hc9 hN
      refine zT.iload_n 3 dX1_putName_3 rfl rfl ?_
      refine zT.if_lt (tgt := 37) dX1_putName_4 (by decide) (by first | assumption | exact zq_i _ | exact zand_i _ _ | exact zor_i _ _ | exact zxor_i _ _ | exact zN _ | omega) (fun c4 => ?_) (fun c4 => ?_)
      · obtain rfl : kk = 0 := by omega
        have hT : tt = R := hT
        refine zT.vret dX1_putName_37 rfl ?_
        exact ⟨rfl, hgA, by rw [hR9, ← hT]; exact hQ, hoA⟩
      · obtain ⟨j, rfl⟩ : ∃ j, kk = j + 1 := ⟨kk - 1, by omega⟩
        obtain rfl : sh = 8 * (j : Int) := by omega
        have hbj := hb j
        have hbk : 0 ≤ v / 2 ^ (8 * (j : Int)).toNat % 256 := Int.emod_nonneg _ (by omega)
        have hg := hgA
        have ho := hoA
        have c9 : tt.1 ≤ tt.1 + 0 := by omega
        refine zT.lload_n 1 dX1_putName_7 rfl rfl ?_
        refine zT.iload_n 3 dX1_putName_8 rfl rfl ?_
        refine zT.lshr dX1_putName_9 (by first | assumption | exact zq_i _ | exact zand_i _ _ | exact zor_i _ _ | exact zxor_i _ _ | exact zN _ | omega) (by first | assumption | exact zq_i _ | exact zand_i _ _ | exact zor_i _ _ | exact zxor_i _ _ | exact zN _ | omega) (by first | assumption | exact zq_i _ | exact zand_i _ _ | exact zor_i _ _ | exact zxor_i _ _ | exact zN _ | omega) ?_
        refine zT.ldc2 255 q935 (by decide +kernel) dX1_putName_10 ?_
        refine zT.land dX1_putName_13 ?_
        rw [zjand_255]
        show zT G _ _ _ _ [zJ (v / 2 ^ (8 * (j : Int)).toNat % 256)] _ _ _ _ _ _
        refine zT.lconst dX1_putName_14 ?_
        show zT G _ _ _ _ (zJ 0 :: _) _ _ _ _ _ _
        refine zT.lc_eq (tgt := 31) dX1_putName_15 dX1_putName_16 (by decide) (by first | assumption | exact zq_i _ | exact zand_i _ _ | exact zor_i _ _ | exact zxor_i _ _ | exact zN _ | omega) (by first | assumption | exact zq_i _ | exact zand_i _ _ | exact zor_i _ _ | exact zxor_i _ _ | exact zN _ | omega) (fun c15 => ?_) (fun c15 => ?_)
        · refine zT.iinc 3 dX1_putName_31 rfl (by decide) (zpreU rfl) ?_
          show zT G _ _ _ [zR x, zJ v, zU, zI ((8 * (j : Int)) + (-8))] _ _ _ _ _ _ _
          refine zT.goto (tgt := 3) dX1_putName_34 (by decide) ?_
          exact ih3 _ _ _ j _ (by exact hgA) (by exact hQ) (by exact hoA) (by omega) (by omega) (by rw [← hT]; show _ = tNm v j (tB tt (v / 2 ^ (8 * (j : Int)).toNat % 256)); unfold tB; first | rw [if_pos (by assumption)] | rw [if_neg (by assumption)]) (by first | omega | (simp only [tPut_1]; omega)) (by omega)
        · refine zT.aload_n 0 dX1_putName_19 rfl rfl ?_
          refine zT.lload_n 1 dX1_putName_20 rfl rfl ?_
          refine zT.iload_n 3 dX1_putName_21 rfl rfl ?_
          refine zT.lshr dX1_putName_22 (by first | assumption | exact zq_i _ | exact zand_i _ _ | exact zor_i _ _ | exact zxor_i _ _ | exact zN _ | omega) (by first | assumption | exact zq_i _ | exact zand_i _ _ | exact zor_i _ _ | exact zxor_i _ _ | exact zN _ | omega) (by first | assumption | exact zq_i _ | exact zand_i _ _ | exact zor_i _ _ | exact zxor_i _ _ | exact zN _ | omega) ?_
          refine zT.ldc2 255 q935 (by decide +kernel) dX1_putName_23 ?_
          refine zT.land dX1_putName_26 ?_
          rw [zjand_255]
          show zT G _ _ _ _ [zJ (v / 2 ^ (8 * (j : Int)).toNat % 256), zR x] _ _ _ _ _ _
          refine zT.l2i dX1_putName_27 ?_
          refine zT.callV (M' := mX1_put) (b := x) [zI (v / 2 ^ (8 * (j : Int)).toNat % 256)] [] dX1_putName_28 kX1_310 rfl rfl (ci := 0) (r := (RX1, TX1, 42)) rfl (zPan.k hQ.sh) (C_X1_put hQ (by omega) (by omega)) (by decide) (k' := 0) (n' := 0) (by omega) (by omega) (by decide) (fun v28 S28_ m28_ h28 => ?_) (fun _ _ _ _ h => h.elim)
          obtain ⟨rfl, g9, hQ9, o9⟩ := h28
          have hg := hg.tr g9
          have ho := ho.tr o9
          have c9 : (tPut tt (v / 2 ^ (8 * (j : Int)).toNat % 256)).1 ≤ tt.1 + 1 := by have q9 := c9; rw [tPut_1]; omega
          show zT G _ _ _ _ [] _ _ _ _ _ _
          refine zT.iinc 3 dX1_putName_31 rfl (by decide) (zpreU rfl) ?_
          show zT G _ _ _ [zR x, zJ v, zU, zI ((8 * (j : Int)) + (-8))] _ _ _ _ _ _ _
          refine zT.goto (tgt := 3) dX1_putName_34 (by decide) ?_
          exact ih3 _ _ _ j _ (by exact hg) (by exact hQ9) (by exact ho) (by omega) (by omega) (by rw [← hT]; show _ = tNm v j (tB tt (v / 2 ^ (8 * (j : Int)).toNat % 256)); unfold tB; first | rw [if_pos (by assumption)] | rw [if_neg (by assumption)]) (by first | omega | (simp only [tPut_1]; omega)) (by omega)
  exact L3 _ _ _ _ 6 _ (by exact zGr.rf) (by exact hR) (by exact zOut.rf) (by exact Nat.le_refl 6) (by rfl) (by exact hR9) (by show t.1 + ((6 : Nat) : Int) < 8000; omega) (Nat.lt_succ_self _)

theorem C_X1_putNameW {G : zG} {S : zS} {m : zMm} {x : Int} {A : zMm} {t : zTt} (hR : rel S m x (uTx A t)) {w : Int} (hn : t.1 + 6 < 8000) : zC G mX1_putName 1 0 0 [zR x, zJ (zc w)] S m (zPo S m x none (uTx A (tLw 6 w t))) zNX := by
  have q := zc_b w
  have h := C_X1_putName (G := G) hR (v := zc w) (by unfold zj; omega) q.1 q.2.2 hn
  rw [tNm_zc] at h
  exact h
theorem tNum_3 {t : zTt} {n : Int} (h : n ≤ 9) : (tNum t n).1 = t.1 + 2 := by
  unfold tNum tN3 tN2
  rw [if_neg (by omega), if_neg (by omega)]
  simp only [tPut_1]
  omega
theorem tGo_2 {N : Int → Int} {g : zGo} {k : Int} {t : zTt} (h : g k 3 ≤ 9) : (tGo N g k t).1 ≤ t.1 + 19 := by
  unfold tGo
  rw [tPut_1]
  have h1 := tLw_1 (f := 6) (w := N (g k 0)) (t := t)
  have h2 := tNum_1 (t := tPut (tPut (tLw 6 (N (g k 0)) t) 32) (if g k 1 = 0 then 116 else 117)) (n := g k 2)
  have h3 := tNum_3 (t := tNum (tPut (tPut (tLw 6 (N (g k 0)) t) 32) (if g k 1 = 0 then 116 else 117)) (g k 2)) h
  have h4 := tNum_1 (t := tNum (tNum (tPut (tPut (tLw 6 (N (g k 0)) t) 32) (if g k 1 = 0 then 116 else 117)) (g k 2)) (g k 3)) (n := g k 4)
  simp only [tPut_1] at h2
  omega
theorem C_X1_write {G : zG} {S : zS} {m : zMm} {x : Int} {A : zMm} (hR : rel S m x A) (hsl : ∀ k, 0 ≤ k → k < A 2 58 → (aGo (A 2) 58) k 0 < (aK (A 0 1023) (A 2)) 5) : zC G mX1_write 2 0 0 [zR x] S m (zPo S m x (some (zI (tWr (A 6) (aGo (A 2) 58) (A 2 58).toNat).1)) (uTx A (tWr (A 6) (aGo (A 2) 58) (A 2 58).toNat))) zNX := by
  have hV := hR.vpl
  have hV0 := hV.1
  have hV1 := hV.2.1
  have hk := hR.vki.1.1
  refine zC.of [zR x, zU] (by decide) rfl (zEn1 (zcR _) (zEn0 (by simp))) rfl ?_
  refine zT.aload_n 0 dX1_write_0 rfl rfl ?_
  refine zT.iconst dX1_write_1 ?_
  refine zT.putI dX1_write_2 fX1_307 zs_15 rfl (zPan.k hR.sh) (j := 15) (by decide) rfl (by first | assumption | exact zq_i _ | exact zand_i _ _ | exact zor_i _ _ | exact zxor_i _ _ | exact zN _ | omega) ?_
  obtain ⟨m1, em1⟩ : ∃ z, z = zup m x 15 0 := ⟨_, rfl⟩
  rw [← em1]
  refine zT.iconst dX1_write_5 ?_
  refine zT.istore_n 1 dX1_write_6 rfl (by decide) (zpre1 rfl (zcR _)) ?_
  show zT G _ _ _ [zR x, zI 0] _ _ _ _ _ _ _
  have L7 : ∀ (N : Nat) (SA : zS) (mA : zMm) (k : Int), (zGr S SA) → (rel SA mA x (uTx A (tWr (A 6) (aGo (A 2) 58) k.toNat))) → (zOut x m mA) → (0 ≤ k) → (k ≤ A 2 58) → ((tWr (A 6) (aGo (A 2) 58) k.toNat).1 ≤ 19 * k) → ((A 2 58 - k).toNat) < N → zT G mX1_write 2 7 [zR x, zI k] [] SA mA 0 0 (zPo S m x (some (zI (tWr (A 6) (aGo (A 2) 58) (A 2 58).toNat).1)) (uTx A (tWr (A 6) (aGo (A 2) 58) (A 2 58).toNat))) zNX := by
    intro N
    induction N with
    | zero => intro SA mA k hgA hQ hoA k0 k1 hc9 hN; exact absurd hN (Nat.not_lt_zero _)
    | succ N ih7 =>
      intro SA mA k hgA hQ hoA k0 k1 hc9 hN
      obtain ⟨tt, ett⟩ : ∃ z, z = tWr (A 6) (aGo (A 2) 58) k.toNat := ⟨_, rfl⟩
      rw [← ett] at hQ hc9
      have pl9 := hQ.pl
      rw [uTx_c (by omega) (by omega)] at pl9
      have pn9 := pl9.2.1
      have hg := hgA
      have ho := hoA
      have c9 : tt.1 ≤ tt.1 + 0 := by omega
      refine zT.iload_n 1 dX1_write_7 rfl rfl ?_
      refine zT.aload_n 0 dX1_write_8 rfl rfl ?_
      refine zT.getF dX1_write_9 fX1_73 rfl (zPan.k hQ.sh) (j := 8) (by decide) rfl (zPan.f8 hQ.sh) ?_
      refine zT.getI dX1_write_12 fX1_213 rfl (zPlan.k (zPan.o8 hQ.sh)) (j := 5) (by decide) rfl (fun z12 => ?_)
      refine zT.ic_ge (tgt := 119) dX1_write_15 (by decide) (by first | assumption | exact zq_i _ | exact zand_i _ _ | exact zor_i _ _ | exact zxor_i _ _ | exact zN _ | omega) (by first | assumption | exact zq_i _ | exact zand_i _ _ | exact zor_i _ _ | exact zxor_i _ _ | exact zN _ | omega) (fun c15 => ?_) (fun c15 => ?_)
      · refine zT.aload_n 0 dX1_write_119 rfl rfl ?_
        refine zT.getI dX1_write_120 fX1_307 rfl (zPan.k hQ.sh) (j := 15) (by decide) rfl (fun z120 => ?_)
        refine zT.iret dX1_write_123 rfl ?_
        have hx := hQ.tx.1
        rw [uTx_n] at hx
        rw [show k = A 2 58 by omega] at ett
        rw [ett] at hQ hx
        exact ⟨by rw [hx], hgA, hQ, hoA⟩
      · have gv := hV.2.2 k (by omega) (by omega)
        have ge := pl9.2.2 k (by omega) (by omega)
        have hs := hsl k (by omega) (by omega)
        have hna := hQ.ki.2.2 ((aGo (A 2) 58) k 0) (by omega) (by rw [uTx_K]; omega)
        rw [uTx_c (by omega) (by omega)] at hna
        refine zT.aload_n 0 dX1_write_18 rfl rfl ?_
        refine zT.aload_n 0 dX1_write_19 rfl rfl ?_
        refine zT.getR dX1_write_20 fX1_66 rfl (zPan.k hQ.sh) (j := 7) (by decide) rfl ?_
        refine zT.getF dX1_write_23 fX1_315 rfl (zKit.k hQ.ki.2.1.1) (j := 0) (by decide) rfl (zKit.f200 hQ.ki.2.1.1) ?_
        refine zT.aload_n 0 dX1_write_26 rfl rfl ?_
        refine zT.getF dX1_write_27 fX1_73 rfl (zPan.k hQ.sh) (j := 8) (by decide) rfl (zPan.f8 hQ.sh) ?_
        refine zT.getF dX1_write_30 fX1_279 rfl (zPlan.k (zPan.o8 hQ.sh)) (j := 0) (by decide) rfl (zPlan.f300 (zPan.o8 hQ.sh)) ?_
        refine zT.iload_n 1 dX1_write_33 rfl rfl ?_
        refine zT.iald dX1_write_34 (zPlan.a300 (zPan.o8 hQ.sh)) (by first | assumption | exact zq_i _ | exact zand_i _ _ | exact zor_i _ _ | exact zxor_i _ _ | exact zN _ | omega) (by rw [(zPlan.n300 (zPan.o8 hQ.sh))]; first | assumption | exact zq_i _ | exact zand_i _ _ | exact zor_i _ _ | exact zxor_i _ _ | exact zN _ | omega) (fun z34 => ?_)
        rw [ge.1]
        show zT G _ _ _ _ [zI ((aGo (A 2) 58) k 0), zR ((mA x 7) + 1), zR x] _ _ _ _ _ _
        refine zT.lald dX1_write_35 (zKit.a200 hQ.ki.2.1.1) (by first | assumption | exact zq_i _ | exact zand_i _ _ | exact zor_i _ _ | exact zxor_i _ _ | exact zN _ | omega) (by rw [(zKit.n200 hQ.ki.2.1.1)]; first | assumption | exact zq_i _ | exact zand_i _ _ | exact zor_i _ _ | exact zxor_i _ _ | exact zN _ | omega) (fun z35 => ?_)
        rw [hna]
        show zT G _ _ _ _ [zJ (zc (A 6 ((aGo (A 2) 58) k 0))), zR x] _ _ _ _ _ _
        refine zT.callV (M' := mX1_putName) (b := x) [zJ (zc (A 6 ((aGo (A 2) 58) k 0)))] [] dX1_write_36 kX1_319 rfl rfl (ci := 0) (r := (RX1, TX1, 42)) rfl (zPan.k hQ.sh) (C_X1_putNameW hQ (by omega)) (by decide) (k' := 0) (n' := 0) (by omega) (by omega) (by decide) (fun v36 S36_ m36_ h36 => ?_) (fun _ _ _ _ h => h.elim)
        obtain ⟨rfl, g9, hQ9, o9⟩ := h36
        have hg := hg.tr g9
        have ho := ho.tr o9
        have c9 : (tLw 6 (A 6 ((aGo (A 2) 58) k 0)) tt).1 ≤ tt.1 + 6 := by have q9 := c9; have z9 := tLw_1 (f := 6) (w := (A 6 ((aGo (A 2) 58) k 0))) (t := tt); omega
        show zT G _ _ _ _ [] _ _ _ _ _ _
        refine zT.aload_n 0 dX1_write_39 rfl rfl ?_
        refine zT.bipush dX1_write_40 ?_
        refine zT.callV (M' := mX1_put) (b := x) [zI 32] [] dX1_write_42 kX1_310 rfl rfl (ci := 0) (r := (RX1, TX1, 42)) rfl (zPan.k hQ9.sh) (C_X1_put hQ9 (by omega) (by omega)) (by decide) (k' := 0) (n' := 0) (by omega) (by omega) (by decide) (fun v42 S42_ m42_ h42 => ?_) (fun _ _ _ _ h => h.elim)
        obtain ⟨rfl, g9, hQ9, o9⟩ := h42
        have hg := hg.tr g9
        have ho := ho.tr o9
        have c9 : (tPut (tLw 6 (A 6 ((aGo (A 2) 58) k 0)) tt) 32).1 ≤ tt.1 + 7 := by have q9 := c9; rw [tPut_1]; omega
        show zT G _ _ _ _ [] _ _ _ _ _ _
        refine zT.aload_n 0 dX1_write_45 rfl rfl ?_
        refine zT.aload_n 0 dX1_write_46 rfl rfl ?_
        refine zT.getF dX1_write_47 fX1_73 rfl (zPan.k hQ9.sh) (j := 8) (by decide) rfl (zPan.f8 hQ9.sh) ?_
        refine zT.getF dX1_write_50 fX1_281 rfl (zPlan.k (zPan.o8 hQ9.sh)) (j := 1) (by decide) rfl (zPlan.f301 (zPan.o8 hQ9.sh)) ?_
        refine zT.iload_n 1 dX1_write_53 rfl rfl ?_
        refine zT.iald dX1_write_54 (zPlan.a301 (zPan.o8 hQ9.sh)) (by first | assumption | exact zq_i _ | exact zand_i _ _ | exact zor_i _ _ | exact zxor_i _ _ | exact zN _ | omega) (by rw [(zPlan.n301 (zPan.o8 hQ9.sh))]; first | assumption | exact zq_i _ | exact zand_i _ _ | exact zor_i _ _ | exact zxor_i _ _ | exact zN _ | omega) (fun z54 => ?_)
        have pk1 := hQ9.pl
        rw [uTx_c (by omega) (by omega)] at pk1
        have ge1 := (pk1.2.2 k (by omega) (by omega)).2.1
        rw [ge1]
        show zT G _ _ _ _ [zI ((aGo (A 2) 58) k 1), zR x] _ _ _ _ _ _
        refine zT.if_ne (tgt := 63) dX1_write_55 (by decide) (by first | assumption | exact zq_i _ | exact zand_i _ _ | exact zor_i _ _ | exact zxor_i _ _ | exact zN _ | omega) (fun c55 => ?_) (fun c55 => ?_)
        · refine zT.bipush dX1_write_63 ?_
          refine zT.callV (M' := mX1_put) (b := x) [zI 117] [] dX1_write_65 kX1_310 rfl rfl (ci := 0) (r := (RX1, TX1, 42)) rfl (zPan.k hQ9.sh) (C_X1_put hQ9 (by omega) (by omega)) (by decide) (k' := 0) (n' := 0) (by omega) (by omega) (by decide) (fun v65 S65_ m65_ h65 => ?_) (fun _ _ _ _ h => h.elim)
          obtain ⟨rfl, g9, hQ9, o9⟩ := h65
          have hg := hg.tr g9
          have ho := ho.tr o9
          have c9 : (tPut (tPut (tLw 6 (A 6 ((aGo (A 2) 58) k 0)) tt) 32) 117).1 ≤ tt.1 + 8 := by have q9 := c9; rw [tPut_1]; omega
          show zT G _ _ _ _ [] _ _ _ _ _ _
          refine zT.aload_n 0 dX1_write_68 rfl rfl ?_
          refine zT.aload_n 0 dX1_write_69 rfl rfl ?_
          refine zT.getF dX1_write_70 fX1_73 rfl (zPan.k hQ9.sh) (j := 8) (by decide) rfl (zPan.f8 hQ9.sh) ?_
          refine zT.getF dX1_write_73 fX1_284 rfl (zPlan.k (zPan.o8 hQ9.sh)) (j := 2) (by decide) rfl (zPlan.f302 (zPan.o8 hQ9.sh)) ?_
          refine zT.iload_n 1 dX1_write_76 rfl rfl ?_
          refine zT.iald dX1_write_77 (zPlan.a302 (zPan.o8 hQ9.sh)) (by first | assumption | exact zq_i _ | exact zand_i _ _ | exact zor_i _ _ | exact zxor_i _ _ | exact zN _ | omega) (by rw [(zPlan.n302 (zPan.o8 hQ9.sh))]; first | assumption | exact zq_i _ | exact zand_i _ _ | exact zor_i _ _ | exact zxor_i _ _ | exact zN _ | omega) (fun z77 => ?_)
          have pk2 := hQ9.pl
          rw [uTx_c (by omega) (by omega)] at pk2
          have ge2 := (pk2.2.2 k (by omega) (by omega)).2.2.1
          rw [ge2]
          show zT G _ _ _ _ [zI ((aGo (A 2) 58) k 2), zR x] _ _ _ _ _ _
          refine zT.callV (M' := mX1_putNumber) (b := x) [zI ((aGo (A 2) 58) k 2)] [] dX1_write_78 kX1_323 rfl rfl (ci := 0) (r := (RX1, TX1, 42)) rfl (zPan.k hQ9.sh) (C_X1_putNumber hQ9 (by omega) (by omega)) (by decide) (k' := 0) (n' := 0) (by omega) (by omega) (by decide) (fun v78 S78_ m78_ h78 => ?_) (fun _ _ _ _ h => h.elim)
          obtain ⟨rfl, g9, hQ9, o9⟩ := h78
          have hg := hg.tr g9
          have ho := ho.tr o9
          have c9 : (tNum (tPut (tPut (tLw 6 (A 6 ((aGo (A 2) 58) k 0)) tt) 32) 117) ((aGo (A 2) 58) k 2)).1 ≤ tt.1 + 12 := by have q9 := c9; have z9 := tNum_1 (t := tPut (tPut (tLw 6 (A 6 ((aGo (A 2) 58) k 0)) tt) 32) 117) (n := (aGo (A 2) 58) k 2); omega
          show zT G _ _ _ _ [] _ _ _ _ _ _
          refine zT.aload_n 0 dX1_write_81 rfl rfl ?_
          refine zT.aload_n 0 dX1_write_82 rfl rfl ?_
          refine zT.getF dX1_write_83 fX1_73 rfl (zPan.k hQ9.sh) (j := 8) (by decide) rfl (zPan.f8 hQ9.sh) ?_
          refine zT.getF dX1_write_86 fX1_287 rfl (zPlan.k (zPan.o8 hQ9.sh)) (j := 3) (by decide) rfl (zPlan.f303 (zPan.o8 hQ9.sh)) ?_
          refine zT.iload_n 1 dX1_write_89 rfl rfl ?_
          refine zT.iald dX1_write_90 (zPlan.a303 (zPan.o8 hQ9.sh)) (by first | assumption | exact zq_i _ | exact zand_i _ _ | exact zor_i _ _ | exact zxor_i _ _ | exact zN _ | omega) (by rw [(zPlan.n303 (zPan.o8 hQ9.sh))]; first | assumption | exact zq_i _ | exact zand_i _ _ | exact zor_i _ _ | exact zxor_i _ _ | exact zN _ | omega) (fun z90 => ?_)
          have pk3 := hQ9.pl
          rw [uTx_c (by omega) (by omega)] at pk3
          have ge3 := (pk3.2.2 k (by omega) (by omega)).2.2.2.1
          rw [ge3]
          show zT G _ _ _ _ [zI ((aGo (A 2) 58) k 3), zR x] _ _ _ _ _ _
          refine zT.callV (M' := mX1_putNumber) (b := x) [zI ((aGo (A 2) 58) k 3)] [] dX1_write_91 kX1_323 rfl rfl (ci := 0) (r := (RX1, TX1, 42)) rfl (zPan.k hQ9.sh) (C_X1_putNumber hQ9 (by omega) (by omega)) (by decide) (k' := 0) (n' := 0) (by omega) (by omega) (by decide) (fun v91 S91_ m91_ h91 => ?_) (fun _ _ _ _ h => h.elim)
          obtain ⟨rfl, g9, hQ9, o9⟩ := h91
          have hg := hg.tr g9
          have ho := ho.tr o9
          have c9 : (tNum (tNum (tPut (tPut (tLw 6 (A 6 ((aGo (A 2) 58) k 0)) tt) 32) 117) ((aGo (A 2) 58) k 2)) ((aGo (A 2) 58) k 3)).1 ≤ tt.1 + 16 := by have q9 := c9; have z9 := tNum_1 (t := tNum (tPut (tPut (tLw 6 (A 6 ((aGo (A 2) 58) k 0)) tt) 32) 117) ((aGo (A 2) 58) k 2)) (n := (aGo (A 2) 58) k 3); omega
          show zT G _ _ _ _ [] _ _ _ _ _ _
          refine zT.aload_n 0 dX1_write_94 rfl rfl ?_
          refine zT.aload_n 0 dX1_write_95 rfl rfl ?_
          refine zT.getF dX1_write_96 fX1_73 rfl (zPan.k hQ9.sh) (j := 8) (by decide) rfl (zPan.f8 hQ9.sh) ?_
          refine zT.getF dX1_write_99 fX1_289 rfl (zPlan.k (zPan.o8 hQ9.sh)) (j := 4) (by decide) rfl (zPlan.f304 (zPan.o8 hQ9.sh)) ?_
          refine zT.iload_n 1 dX1_write_102 rfl rfl ?_
          refine zT.iald dX1_write_103 (zPlan.a304 (zPan.o8 hQ9.sh)) (by first | assumption | exact zq_i _ | exact zand_i _ _ | exact zor_i _ _ | exact zxor_i _ _ | exact zN _ | omega) (by rw [(zPlan.n304 (zPan.o8 hQ9.sh))]; first | assumption | exact zq_i _ | exact zand_i _ _ | exact zor_i _ _ | exact zxor_i _ _ | exact zN _ | omega) (fun z103 => ?_)
          have pk4 := hQ9.pl
          rw [uTx_c (by omega) (by omega)] at pk4
          have ge4 := (pk4.2.2 k (by omega) (by omega)).2.2.2.2
          rw [ge4]
          show zT G _ _ _ _ [zI ((aGo (A 2) 58) k 4), zR x] _ _ _ _ _ _
          refine zT.callV (M' := mX1_putNumber) (b := x) [zI ((aGo (A 2) 58) k 4)] [] dX1_write_104 kX1_323 rfl rfl (ci := 0) (r := (RX1, TX1, 42)) rfl (zPan.k hQ9.sh) (C_X1_putNumber hQ9 (by omega) (by omega)) (by decide) (k' := 0) (n' := 0) (by omega) (by omega) (by decide) (fun v104 S104_ m104_ h104 => ?_) (fun _ _ _ _ h => h.elim)
          obtain ⟨rfl, g9, hQ9, o9⟩ := h104
          have hg := hg.tr g9
          have ho := ho.tr o9
          have c9 : (tNum (tNum (tNum (tPut (tPut (tLw 6 (A 6 ((aGo (A 2) 58) k 0)) tt) 32) 117) ((aGo (A 2) 58) k 2)) ((aGo (A 2) 58) k 3)) ((aGo (A 2) 58) k 4)).1 ≤ tt.1 + 20 := by have q9 := c9; have z9 := tNum_1 (t := tNum (tNum (tPut (tPut (tLw 6 (A 6 ((aGo (A 2) 58) k 0)) tt) 32) 117) ((aGo (A 2) 58) k 2)) ((aGo (A 2) 58) k 3)) (n := (aGo (A 2) 58) k 4); omega
          show zT G _ _ _ _ [] _ _ _ _ _ _
          refine zT.aload_n 0 dX1_write_107 rfl rfl ?_
          refine zT.bipush dX1_write_108 ?_
          refine zT.callV (M' := mX1_put) (b := x) [zI 59] [] dX1_write_110 kX1_310 rfl rfl (ci := 0) (r := (RX1, TX1, 42)) rfl (zPan.k hQ9.sh) (C_X1_put hQ9 (by omega) (by omega)) (by decide) (k' := 0) (n' := 0) (by omega) (by omega) (by decide) (fun v110 S110_ m110_ h110 => ?_) (fun _ _ _ _ h => h.elim)
          obtain ⟨rfl, g9, hQ9, o9⟩ := h110
          have hg := hg.tr g9
          have ho := ho.tr o9
          have c9 : (tPut (tNum (tNum (tNum (tPut (tPut (tLw 6 (A 6 ((aGo (A 2) 58) k 0)) tt) 32) 117) ((aGo (A 2) 58) k 2)) ((aGo (A 2) 58) k 3)) ((aGo (A 2) 58) k 4)) 59).1 ≤ tt.1 + 21 := by have q9 := c9; rw [tPut_1]; omega
          show zT G _ _ _ _ [] _ _ _ _ _ _
          refine zT.iinc 1 dX1_write_113 rfl (by decide) (zpre1 rfl (zcR _)) ?_
          show zT G _ _ _ [zR x, zI (k + 1)] _ _ _ _ _ _ _
          refine zT.goto (tgt := 7) dX1_write_116 (by decide) ?_
          exact ih7 _ _ _ (by exact hg) (by
              have e9 : tWr (A 6) (aGo (A 2) 58) (k + 1).toNat = tGo (A 6) (aGo (A 2) 58) k tt := by rw [show (k + 1).toNat = k.toNat + 1 by omega, ett]; show tGo (A 6) (aGo (A 2) 58) ((k.toNat : Nat) : Int) _ = _; rw [show ((k.toNat : Nat) : Int) = k by omega]
              rw [e9]
              unfold tGo
              first | rw [if_pos (by assumption)] | rw [if_neg (by assumption)]
              exact hQ9) (by exact ho) (by omega) (by omega) (by
              have e9 : tWr (A 6) (aGo (A 2) 58) (k + 1).toNat = tGo (A 6) (aGo (A 2) 58) k tt := by rw [show (k + 1).toNat = k.toNat + 1 by omega, ett]; show tGo (A 6) (aGo (A 2) 58) ((k.toNat : Nat) : Int) _ = _; rw [show ((k.toNat : Nat) : Int) = k by omega]
              rw [e9]
              have := tGo_2 (N := A 6) (g := (aGo (A 2) 58)) (k := k) (t := tt) (by omega)
              omega) (by omega)
        · refine zT.bipush dX1_write_58 ?_
          refine zT.goto (tgt := 65) dX1_write_60 (by decide) ?_
          refine zT.callV (M' := mX1_put) (b := x) [zI 116] [] dX1_write_65 kX1_310 rfl rfl (ci := 0) (r := (RX1, TX1, 42)) rfl (zPan.k hQ9.sh) (C_X1_put hQ9 (by omega) (by omega)) (by decide) (k' := 0) (n' := 0) (by omega) (by omega) (by decide) (fun v65 S65_ m65_ h65 => ?_) (fun _ _ _ _ h => h.elim)
          obtain ⟨rfl, g9, hQ9, o9⟩ := h65
          have hg := hg.tr g9
          have ho := ho.tr o9
          have c9 : (tPut (tPut (tLw 6 (A 6 ((aGo (A 2) 58) k 0)) tt) 32) 116).1 ≤ tt.1 + 8 := by have q9 := c9; rw [tPut_1]; omega
          show zT G _ _ _ _ [] _ _ _ _ _ _
          refine zT.aload_n 0 dX1_write_68 rfl rfl ?_
          refine zT.aload_n 0 dX1_write_69 rfl rfl ?_
          refine zT.getF dX1_write_70 fX1_73 rfl (zPan.k hQ9.sh) (j := 8) (by decide) rfl (zPan.f8 hQ9.sh) ?_
          refine zT.getF dX1_write_73 fX1_284 rfl (zPlan.k (zPan.o8 hQ9.sh)) (j := 2) (by decide) rfl (zPlan.f302 (zPan.o8 hQ9.sh)) ?_
          refine zT.iload_n 1 dX1_write_76 rfl rfl ?_
          refine zT.iald dX1_write_77 (zPlan.a302 (zPan.o8 hQ9.sh)) (by first | assumption | exact zq_i _ | exact zand_i _ _ | exact zor_i _ _ | exact zxor_i _ _ | exact zN _ | omega) (by rw [(zPlan.n302 (zPan.o8 hQ9.sh))]; first | assumption | exact zq_i _ | exact zand_i _ _ | exact zor_i _ _ | exact zxor_i _ _ | exact zN _ | omega) (fun z77 => ?_)
          have pk2 := hQ9.pl
          rw [uTx_c (by omega) (by omega)] at pk2
          have ge2 := (pk2.2.2 k (by omega) (by omega)).2.2.1
          rw [ge2]
          show zT G _ _ _ _ [zI ((aGo (A 2) 58) k 2), zR x] _ _ _ _ _ _
          refine zT.callV (M' := mX1_putNumber) (b := x) [zI ((aGo (A 2) 58) k 2)] [] dX1_write_78 kX1_323 rfl rfl (ci := 0) (r := (RX1, TX1, 42)) rfl (zPan.k hQ9.sh) (C_X1_putNumber hQ9 (by omega) (by omega)) (by decide) (k' := 0) (n' := 0) (by omega) (by omega) (by decide) (fun v78 S78_ m78_ h78 => ?_) (fun _ _ _ _ h => h.elim)
          obtain ⟨rfl, g9, hQ9, o9⟩ := h78
          have hg := hg.tr g9
          have ho := ho.tr o9
          have c9 : (tNum (tPut (tPut (tLw 6 (A 6 ((aGo (A 2) 58) k 0)) tt) 32) 116) ((aGo (A 2) 58) k 2)).1 ≤ tt.1 + 12 := by have q9 := c9; have z9 := tNum_1 (t := tPut (tPut (tLw 6 (A 6 ((aGo (A 2) 58) k 0)) tt) 32) 116) (n := (aGo (A 2) 58) k 2); omega
          show zT G _ _ _ _ [] _ _ _ _ _ _
          refine zT.aload_n 0 dX1_write_81 rfl rfl ?_
          refine zT.aload_n 0 dX1_write_82 rfl rfl ?_
          refine zT.getF dX1_write_83 fX1_73 rfl (zPan.k hQ9.sh) (j := 8) (by decide) rfl (zPan.f8 hQ9.sh) ?_
          refine zT.getF dX1_write_86 fX1_287 rfl (zPlan.k (zPan.o8 hQ9.sh)) (j := 3) (by decide) rfl (zPlan.f303 (zPan.o8 hQ9.sh)) ?_
          refine zT.iload_n 1 dX1_write_89 rfl rfl ?_
          refine zT.iald dX1_write_90 (zPlan.a303 (zPan.o8 hQ9.sh)) (by first | assumption | exact zq_i _ | exact zand_i _ _ | exact zor_i _ _ | exact zxor_i _ _ | exact zN _ | omega) (by rw [(zPlan.n303 (zPan.o8 hQ9.sh))]; first | assumption | exact zq_i _ | exact zand_i _ _ | exact zor_i _ _ | exact zxor_i _ _ | exact zN _ | omega) (fun z90 => ?_)
          have pk3 := hQ9.pl
          rw [uTx_c (by omega) (by omega)] at pk3
          have ge3 := (pk3.2.2 k (by omega) (by omega)).2.2.2.1
          rw [ge3]
          show zT G _ _ _ _ [zI ((aGo (A 2) 58) k 3), zR x] _ _ _ _ _ _
          refine zT.callV (M' := mX1_putNumber) (b := x) [zI ((aGo (A 2) 58) k 3)] [] dX1_write_91 kX1_323 rfl rfl (ci := 0) (r := (RX1, TX1, 42)) rfl (zPan.k hQ9.sh) (C_X1_putNumber hQ9 (by omega) (by omega)) (by decide) (k' := 0) (n' := 0) (by omega) (by omega) (by decide) (fun v91 S91_ m91_ h91 => ?_) (fun _ _ _ _ h => h.elim)
          obtain ⟨rfl, g9, hQ9, o9⟩ := h91
          have hg := hg.tr g9
          have ho := ho.tr o9
          have c9 : (tNum (tNum (tPut (tPut (tLw 6 (A 6 ((aGo (A 2) 58) k 0)) tt) 32) 116) ((aGo (A 2) 58) k 2)) ((aGo (A 2) 58) k 3)).1 ≤ tt.1 + 16 := by have q9 := c9; have z9 := tNum_1 (t := tNum (tPut (tPut (tLw 6 (A 6 ((aGo (A 2) 58) k 0)) tt) 32) 116) ((aGo (A 2) 58) k 2)) (n := (aGo (A 2) 58) k 3); omega
          show zT G _ _ _ _ [] _ _ _ _ _ _
          refine zT.aload_n 0 dX1_write_94 rfl rfl ?_
          refine zT.aload_n 0 dX1_write_95 rfl rfl ?_
          refine zT.getF dX1_write_96 fX1_73 rfl (zPan.k hQ9.sh) (j := 8) (by decide) rfl (zPan.f8 hQ9.sh) ?_
          refine zT.getF dX1_write_99 fX1_289 rfl (zPlan.k (zPan.o8 hQ9.sh)) (j := 4) (by decide) rfl (zPlan.f304 (zPan.o8 hQ9.sh)) ?_
          refine zT.iload_n 1 dX1_write_102 rfl rfl ?_
          refine zT.iald dX1_write_103 (zPlan.a304 (zPan.o8 hQ9.sh)) (by first | assumption | exact zq_i _ | exact zand_i _ _ | exact zor_i _ _ | exact zxor_i _ _ | exact zN _ | omega) (by rw [(zPlan.n304 (zPan.o8 hQ9.sh))]; first | assumption | exact zq_i _ | exact zand_i _ _ | exact zor_i _ _ | exact zxor_i _ _ | exact zN _ | omega) (fun z103 => ?_)
          have pk4 := hQ9.pl
          rw [uTx_c (by omega) (by omega)] at pk4
          have ge4 := (pk4.2.2 k (by omega) (by omega)).2.2.2.2
          rw [ge4]
          show zT G _ _ _ _ [zI ((aGo (A 2) 58) k 4), zR x] _ _ _ _ _ _
          refine zT.callV (M' := mX1_putNumber) (b := x) [zI ((aGo (A 2) 58) k 4)] [] dX1_write_104 kX1_323 rfl rfl (ci := 0) (r := (RX1, TX1, 42)) rfl (zPan.k hQ9.sh) (C_X1_putNumber hQ9 (by omega) (by omega)) (by decide) (k' := 0) (n' := 0) (by omega) (by omega) (by decide) (fun v104 S104_ m104_ h104 => ?_) (fun _ _ _ _ h => h.elim)
          obtain ⟨rfl, g9, hQ9, o9⟩ := h104
          have hg := hg.tr g9
          have ho := ho.tr o9
          have c9 : (tNum (tNum (tNum (tPut (tPut (tLw 6 (A 6 ((aGo (A 2) 58) k 0)) tt) 32) 116) ((aGo (A 2) 58) k 2)) ((aGo (A 2) 58) k 3)) ((aGo (A 2) 58) k 4)).1 ≤ tt.1 + 20 := by have q9 := c9; have z9 := tNum_1 (t := tNum (tNum (tPut (tPut (tLw 6 (A 6 ((aGo (A 2) 58) k 0)) tt) 32) 116) ((aGo (A 2) 58) k 2)) ((aGo (A 2) 58) k 3)) (n := (aGo (A 2) 58) k 4); omega
          show zT G _ _ _ _ [] _ _ _ _ _ _
          refine zT.aload_n 0 dX1_write_107 rfl rfl ?_
          refine zT.bipush dX1_write_108 ?_
          refine zT.callV (M' := mX1_put) (b := x) [zI 59] [] dX1_write_110 kX1_310 rfl rfl (ci := 0) (r := (RX1, TX1, 42)) rfl (zPan.k hQ9.sh) (C_X1_put hQ9 (by omega) (by omega)) (by decide) (k' := 0) (n' := 0) (by omega) (by omega) (by decide) (fun v110 S110_ m110_ h110 => ?_) (fun _ _ _ _ h => h.elim)
          obtain ⟨rfl, g9, hQ9, o9⟩ := h110
          have hg := hg.tr g9
          have ho := ho.tr o9
          have c9 : (tPut (tNum (tNum (tNum (tPut (tPut (tLw 6 (A 6 ((aGo (A 2) 58) k 0)) tt) 32) 116) ((aGo (A 2) 58) k 2)) ((aGo (A 2) 58) k 3)) ((aGo (A 2) 58) k 4)) 59).1 ≤ tt.1 + 21 := by have q9 := c9; rw [tPut_1]; omega
          show zT G _ _ _ _ [] _ _ _ _ _ _
          refine zT.iinc 1 dX1_write_113 rfl (by decide) (zpre1 rfl (zcR _)) ?_
          show zT G _ _ _ [zR x, zI (k + 1)] _ _ _ _ _ _ _
          refine zT.goto (tgt := 7) dX1_write_116 (by decide) ?_
          exact ih7 _ _ _ (by exact hg) (by
              have e9 : tWr (A 6) (aGo (A 2) 58) (k + 1).toNat = tGo (A 6) (aGo (A 2) 58) k tt := by rw [show (k + 1).toNat = k.toNat + 1 by omega, ett]; show tGo (A 6) (aGo (A 2) 58) ((k.toNat : Nat) : Int) _ = _; rw [show ((k.toNat : Nat) : Int) = k by omega]
              rw [e9]
              unfold tGo
              first | rw [if_pos (by assumption)] | rw [if_neg (by assumption)]
              exact hQ9) (by exact ho) (by omega) (by omega) (by
              have e9 : tWr (A 6) (aGo (A 2) 58) (k + 1).toNat = tGo (A 6) (aGo (A 2) 58) k tt := by rw [show (k + 1).toNat = k.toNat + 1 by omega, ett]; show tGo (A 6) (aGo (A 2) 58) ((k.toNat : Nat) : Int) _ = _; rw [show ((k.toNat : Nat) : Int) = k by omega]
              rw [e9]
              have := tGo_2 (N := A 6) (g := (aGo (A 2) 58)) (k := k) (t := tt) (by omega)
              omega) (by omega)
  exact L7 _ _ _ _ (by exact zGr.rf) (by rw [em1]; exact hR.tx0) (by rw [em1]; exact zOut.rf.up (by omega)) (by first | assumption | exact zq_i _ | exact zand_i _ _ | exact zor_i _ _ | exact zxor_i _ _ | exact zN _ | omega) (by first | assumption | exact zq_i _ | exact zand_i _ _ | exact zor_i _ _ | exact zxor_i _ _ | exact zN _ | omega) (by exact Int.le_refl _) (Nat.lt_succ_self _)

