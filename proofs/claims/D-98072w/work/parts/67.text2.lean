/-! PanSlicesModel: put putNumber putName write (written by gen/m_text2.py) -/
def yTp (S : zS) (b : Int) (m0 : zMm) (t : zTt) : zQt := fun v S' m' => v = none ∧ S' = S ∧ zPw b m0 m' ∧ yTt b m' t
def yTq (S : zS) (b : Int) (m0 : zMm) (t : zTt) : zQt := fun v S' m' => v = none ∧ S' = S ∧ zTw b m0 m' ∧ yTt b m' t
theorem C_X13_put {G : zG} {S : zS} {m m0 : zMm} {b : Int} {t : zTt} (hb : zMod S b) (hm : zPw b m0 m) (ht : yTt b m t) (ht0 : 0 ≤ t.1) {c : Int} (hc : zi c) (hn : t.1 < 9000) : zC G mX13_put 0 0 0 [zR b, zI c] S m (yTp S b m0 (tPut t c)) zNX := by
  have t1 := ht.1
  refine zC.of [zR b, zI c] (by decide) rfl (zEn1 (zcR _) (zEn1 (zcI _) (zEn0 (by simp)))) rfl ?_
  refine zT.aload_n 0 dX13_put_0 rfl rfl ?_
  refine zT.getF dX13_put_1 fX13_46 rfl (zMod.k hb) (j := 27) (by decide) rfl (zMod.f1027 hb) ?_
  refine zT.aload_n 0 dX13_put_4 rfl rfl ?_
  refine zT.getI dX13_put_5 fX13_327 rfl (zMod.k hb) (j := 29) (by decide) rfl (fun z5 => ?_)
  refine zT.iload_n 1 dX13_put_8 rfl rfl ?_
  refine zT.iast dX13_put_9 (zMod.a1027 hb) (by first | assumption | exact zq_i _ | exact zand_i _ _ | exact zor_i _ _ | exact zN _ | omega) (by rw [(zMod.n1027 hb)]; first | assumption | exact zq_i _ | exact zand_i _ _ | exact zor_i _ _ | exact zN _ | omega) (by first | assumption | exact zq_i _ | exact zand_i _ _ | exact zor_i _ _ | exact zN _ | omega) ?_
  obtain ⟨m1, em1⟩ : ∃ z, z = zup m (b + 11) (m b 1029) c := ⟨_, rfl⟩
  rw [← em1]
  refine zT.aload_n 0 dX13_put_10 rfl rfl ?_
  refine zT.dup dX13_put_11 (zcR _) ?_
  refine zT.getI dX13_put_12 fX13_327 rfl (zMod.k hb) (j := 29) (by decide) rfl (fun z12 => ?_)
  have r12 : m1 b 1029 = m b 1029 := by rw [em1, zup_ne (by omega)]
  rw [r12] at z12 ⊢
  refine zT.iconst dX13_put_15 ?_
  refine zT.iadd dX13_put_16 ?_
  refine zT.putI dX13_put_17 fX13_327 zs_1029 rfl (zMod.k hb) (j := 29) (by decide) rfl (by first | assumption | exact zq_i _ | exact zand_i _ _ | exact zor_i _ _ | exact zN _ | omega) ?_
  obtain ⟨m2, em2⟩ : ∃ z, z = zup m1 b 1029 ((m b 1029) + 1) := ⟨_, rfl⟩
  rw [← em2]
  refine zT.vret dX13_put_20 rfl ?_
  refine ⟨rfl, rfl, ?_, ?_⟩
  · rw [em2, em1]
    intro a j p q
    rw [zup_ne (by omega), zup_ne (by omega)]
    exact hm a j p q
  · rw [em2, em1]
    exact ht.put

theorem C_X13_putNumber {G : zG} {S : zS} {m m0 : zMm} {b : Int} {t : zTt} (hb : zMod S b) (hm : zPw b m0 m) (ht : yTt b m t) (ht0 : 0 ≤ t.1) {n : Int} (h0 : 0 ≤ n ∧ n ≤ 999) (hn : t.1 + 4 < 9000) : zC G mX13_putNumber 1 0 0 [zR b, zI n] S m (yTp S b m0 (tNum t n)) zNX := by
  have c9 : t.1 ≤ t.1 ∧ t.1 ≤ t.1 + 0 := by omega
  refine zC.of [zR b, zI n] (by decide) rfl (zEn1 (zcR _) (zEn1 (zcI _) (zEn0 (by simp)))) rfl ?_
  refine zT.aload_n 0 dX13_putNumber_0 rfl rfl ?_
  refine zT.bipush dX13_putNumber_1 ?_
  refine zT.callV (M' := mX13_put) (b := b) [zI 32] [] dX13_putNumber_3 kX13_330 rfl rfl (ci := 10) (r := (RX13, TX13, 62)) rfl (zMod.k hb) (C_X13_put hb hm ht (by omega) (by first | assumption | exact zq_i _ | exact zand_i _ _ | exact zor_i _ _ | exact zN _ | omega) (by first | assumption | exact zq_i _ | exact zand_i _ _ | exact zor_i _ _ | exact zN _ | omega)) (by decide) (k' := 0) (n' := 0) (by omega) (by omega) (by decide) (fun v3 S3_ m3_ h3 => ?_) (fun _ _ _ _ h => h.elim)
  obtain ⟨rfl, eS3, hm9, ht9⟩ := h3
  have eS3 := eS3.symm
  subst eS3
  have c9 : t.1 ≤ (tPut t 32).1 ∧ (tPut t 32).1 ≤ t.1 + 1 := by have q9 := c9; rw [tPut_1]; omega
  show zT G _ _ _ _ [] _ _ _ _ _ _
  refine zT.iload_n 1 dX13_putNumber_6 rfl rfl ?_
  refine zT.bipush dX13_putNumber_7 ?_
  refine zT.ic_le (tgt := 23) dX13_putNumber_9 (by decide) (by first | assumption | exact zq_i _ | exact zand_i _ _ | exact zor_i _ _ | exact zN _ | omega) (by first | assumption | exact zq_i _ | exact zand_i _ _ | exact zor_i _ _ | exact zN _ | omega) (fun c9 => ?_) (fun c9 => ?_)
  · refine zT.iload_n 1 dX13_putNumber_23 rfl rfl ?_
    refine zT.bipush dX13_putNumber_24 ?_
    refine zT.ic_le (tgt := 43) dX13_putNumber_26 (by decide) (by first | assumption | exact zq_i _ | exact zand_i _ _ | exact zor_i _ _ | exact zN _ | omega) (by first | assumption | exact zq_i _ | exact zand_i _ _ | exact zor_i _ _ | exact zN _ | omega) (fun c26 => ?_) (fun c26 => ?_)
    · refine zT.aload_n 0 dX13_putNumber_43 rfl rfl ?_
      refine zT.bipush dX13_putNumber_44 ?_
      refine zT.iload_n 1 dX13_putNumber_46 rfl rfl ?_
      refine zT.bipush dX13_putNumber_47 ?_
      refine zT.irem dX13_putNumber_49 (by first | assumption | exact zq_i _ | exact zand_i _ _ | exact zor_i _ _ | exact zN _ | omega) (by first | assumption | exact zq_i _ | exact zand_i _ _ | exact zor_i _ _ | exact zN _ | omega) (by first | assumption | exact zq_i _ | exact zand_i _ _ | exact zor_i _ _ | exact zN _ | omega) (by first | assumption | exact zq_i _ | exact zand_i _ _ | exact zor_i _ _ | exact zN _ | omega) ?_
      refine zT.iadd dX13_putNumber_50 ?_
      refine zT.callV (M' := mX13_put) (b := b) [zI (48 + (n % 10))] [] dX13_putNumber_51 kX13_330 rfl rfl (ci := 10) (r := (RX13, TX13, 62)) rfl (zMod.k hb) (C_X13_put hb hm9 ht9 (by omega) (by first | assumption | exact zq_i _ | exact zand_i _ _ | exact zor_i _ _ | exact zN _ | omega) (by first | assumption | exact zq_i _ | exact zand_i _ _ | exact zor_i _ _ | exact zN _ | omega)) (by decide) (k' := 0) (n' := 0) (by omega) (by omega) (by decide) (fun v51 S51_ m51_ h51 => ?_) (fun _ _ _ _ h => h.elim)
      obtain ⟨rfl, eS51, hm9, ht9⟩ := h51
      have eS51 := eS51.symm
      subst eS51
      have c9 : t.1 ≤ (tPut (tPut t 32) (48 + (n % 10))).1 ∧ (tPut (tPut t 32) (48 + (n % 10))).1 ≤ t.1 + 2 := by have q9 := c9; rw [tPut_1]; omega
      show zT G _ _ _ _ [] _ _ _ _ _ _
      refine zT.vret dX13_putNumber_54 rfl ?_
      refine ⟨rfl, rfl, hm9, ?_⟩
      unfold tNum tN3 tN2
      first
        | (exfalso; omega)
        | (rw [if_pos (by omega), if_pos (by omega)]; exact ht9)
        | (rw [if_pos (by omega), if_neg (by omega)]; exact ht9)
        | (rw [if_neg (by omega), if_neg (by omega)]; exact ht9)
    · refine zT.aload_n 0 dX13_putNumber_29 rfl rfl ?_
      refine zT.bipush dX13_putNumber_30 ?_
      refine zT.iload_n 1 dX13_putNumber_32 rfl rfl ?_
      refine zT.bipush dX13_putNumber_33 ?_
      refine zT.idiv dX13_putNumber_35 (by first | assumption | exact zq_i _ | exact zand_i _ _ | exact zor_i _ _ | exact zN _ | omega) (by first | assumption | exact zq_i _ | exact zand_i _ _ | exact zor_i _ _ | exact zN _ | omega) (by first | assumption | exact zq_i _ | exact zand_i _ _ | exact zor_i _ _ | exact zN _ | omega) (by first | assumption | exact zq_i _ | exact zand_i _ _ | exact zor_i _ _ | exact zN _ | omega) ?_
      refine zT.bipush dX13_putNumber_36 ?_
      refine zT.irem dX13_putNumber_38 (by first | assumption | exact zq_i _ | exact zand_i _ _ | exact zor_i _ _ | exact zN _ | omega) (by first | assumption | exact zq_i _ | exact zand_i _ _ | exact zor_i _ _ | exact zN _ | omega) (by first | assumption | exact zq_i _ | exact zand_i _ _ | exact zor_i _ _ | exact zN _ | omega) (by first | assumption | exact zq_i _ | exact zand_i _ _ | exact zor_i _ _ | exact zN _ | omega) ?_
      refine zT.iadd dX13_putNumber_39 ?_
      refine zT.callV (M' := mX13_put) (b := b) [zI (48 + ((n / 10) % 10))] [] dX13_putNumber_40 kX13_330 rfl rfl (ci := 10) (r := (RX13, TX13, 62)) rfl (zMod.k hb) (C_X13_put hb hm9 ht9 (by omega) (by first | assumption | exact zq_i _ | exact zand_i _ _ | exact zor_i _ _ | exact zN _ | omega) (by first | assumption | exact zq_i _ | exact zand_i _ _ | exact zor_i _ _ | exact zN _ | omega)) (by decide) (k' := 0) (n' := 0) (by omega) (by omega) (by decide) (fun v40 S40_ m40_ h40 => ?_) (fun _ _ _ _ h => h.elim)
      obtain ⟨rfl, eS40, hm9, ht9⟩ := h40
      have eS40 := eS40.symm
      subst eS40
      have c9 : t.1 ≤ (tPut (tPut t 32) (48 + ((n / 10) % 10))).1 ∧ (tPut (tPut t 32) (48 + ((n / 10) % 10))).1 ≤ t.1 + 2 := by have q9 := c9; rw [tPut_1]; omega
      show zT G _ _ _ _ [] _ _ _ _ _ _
      refine zT.aload_n 0 dX13_putNumber_43 rfl rfl ?_
      refine zT.bipush dX13_putNumber_44 ?_
      refine zT.iload_n 1 dX13_putNumber_46 rfl rfl ?_
      refine zT.bipush dX13_putNumber_47 ?_
      refine zT.irem dX13_putNumber_49 (by first | assumption | exact zq_i _ | exact zand_i _ _ | exact zor_i _ _ | exact zN _ | omega) (by first | assumption | exact zq_i _ | exact zand_i _ _ | exact zor_i _ _ | exact zN _ | omega) (by first | assumption | exact zq_i _ | exact zand_i _ _ | exact zor_i _ _ | exact zN _ | omega) (by first | assumption | exact zq_i _ | exact zand_i _ _ | exact zor_i _ _ | exact zN _ | omega) ?_
      refine zT.iadd dX13_putNumber_50 ?_
      refine zT.callV (M' := mX13_put) (b := b) [zI (48 + (n % 10))] [] dX13_putNumber_51 kX13_330 rfl rfl (ci := 10) (r := (RX13, TX13, 62)) rfl (zMod.k hb) (C_X13_put hb hm9 ht9 (by omega) (by first | assumption | exact zq_i _ | exact zand_i _ _ | exact zor_i _ _ | exact zN _ | omega) (by first | assumption | exact zq_i _ | exact zand_i _ _ | exact zor_i _ _ | exact zN _ | omega)) (by decide) (k' := 0) (n' := 0) (by omega) (by omega) (by decide) (fun v51 S51_ m51_ h51 => ?_) (fun _ _ _ _ h => h.elim)
      obtain ⟨rfl, eS51, hm9, ht9⟩ := h51
      have eS51 := eS51.symm
      subst eS51
      have c9 : t.1 ≤ (tPut (tPut (tPut t 32) (48 + ((n / 10) % 10))) (48 + (n % 10))).1 ∧ (tPut (tPut (tPut t 32) (48 + ((n / 10) % 10))) (48 + (n % 10))).1 ≤ t.1 + 3 := by have q9 := c9; rw [tPut_1]; omega
      show zT G _ _ _ _ [] _ _ _ _ _ _
      refine zT.vret dX13_putNumber_54 rfl ?_
      refine ⟨rfl, rfl, hm9, ?_⟩
      unfold tNum tN3 tN2
      first
        | (exfalso; omega)
        | (rw [if_pos (by omega), if_pos (by omega)]; exact ht9)
        | (rw [if_pos (by omega), if_neg (by omega)]; exact ht9)
        | (rw [if_neg (by omega), if_neg (by omega)]; exact ht9)
  · refine zT.aload_n 0 dX13_putNumber_12 rfl rfl ?_
    refine zT.bipush dX13_putNumber_13 ?_
    refine zT.iload_n 1 dX13_putNumber_15 rfl rfl ?_
    refine zT.bipush dX13_putNumber_16 ?_
    refine zT.idiv dX13_putNumber_18 (by first | assumption | exact zq_i _ | exact zand_i _ _ | exact zor_i _ _ | exact zN _ | omega) (by first | assumption | exact zq_i _ | exact zand_i _ _ | exact zor_i _ _ | exact zN _ | omega) (by first | assumption | exact zq_i _ | exact zand_i _ _ | exact zor_i _ _ | exact zN _ | omega) (by first | assumption | exact zq_i _ | exact zand_i _ _ | exact zor_i _ _ | exact zN _ | omega) ?_
    refine zT.iadd dX13_putNumber_19 ?_
    refine zT.callV (M' := mX13_put) (b := b) [zI (48 + (n / 100))] [] dX13_putNumber_20 kX13_330 rfl rfl (ci := 10) (r := (RX13, TX13, 62)) rfl (zMod.k hb) (C_X13_put hb hm9 ht9 (by omega) (by first | assumption | exact zq_i _ | exact zand_i _ _ | exact zor_i _ _ | exact zN _ | omega) (by first | assumption | exact zq_i _ | exact zand_i _ _ | exact zor_i _ _ | exact zN _ | omega)) (by decide) (k' := 0) (n' := 0) (by omega) (by omega) (by decide) (fun v20 S20_ m20_ h20 => ?_) (fun _ _ _ _ h => h.elim)
    obtain ⟨rfl, eS20, hm9, ht9⟩ := h20
    have eS20 := eS20.symm
    subst eS20
    have c9 : t.1 ≤ (tPut (tPut t 32) (48 + (n / 100))).1 ∧ (tPut (tPut t 32) (48 + (n / 100))).1 ≤ t.1 + 2 := by have q9 := c9; rw [tPut_1]; omega
    show zT G _ _ _ _ [] _ _ _ _ _ _
    refine zT.iload_n 1 dX13_putNumber_23 rfl rfl ?_
    refine zT.bipush dX13_putNumber_24 ?_
    refine zT.ic_le (tgt := 43) dX13_putNumber_26 (by decide) (by first | assumption | exact zq_i _ | exact zand_i _ _ | exact zor_i _ _ | exact zN _ | omega) (by first | assumption | exact zq_i _ | exact zand_i _ _ | exact zor_i _ _ | exact zN _ | omega) (fun c26 => ?_) (fun c26 => ?_)
    · refine zT.aload_n 0 dX13_putNumber_43 rfl rfl ?_
      refine zT.bipush dX13_putNumber_44 ?_
      refine zT.iload_n 1 dX13_putNumber_46 rfl rfl ?_
      refine zT.bipush dX13_putNumber_47 ?_
      refine zT.irem dX13_putNumber_49 (by first | assumption | exact zq_i _ | exact zand_i _ _ | exact zor_i _ _ | exact zN _ | omega) (by first | assumption | exact zq_i _ | exact zand_i _ _ | exact zor_i _ _ | exact zN _ | omega) (by first | assumption | exact zq_i _ | exact zand_i _ _ | exact zor_i _ _ | exact zN _ | omega) (by first | assumption | exact zq_i _ | exact zand_i _ _ | exact zor_i _ _ | exact zN _ | omega) ?_
      refine zT.iadd dX13_putNumber_50 ?_
      refine zT.callV (M' := mX13_put) (b := b) [zI (48 + (n % 10))] [] dX13_putNumber_51 kX13_330 rfl rfl (ci := 10) (r := (RX13, TX13, 62)) rfl (zMod.k hb) (C_X13_put hb hm9 ht9 (by omega) (by first | assumption | exact zq_i _ | exact zand_i _ _ | exact zor_i _ _ | exact zN _ | omega) (by first | assumption | exact zq_i _ | exact zand_i _ _ | exact zor_i _ _ | exact zN _ | omega)) (by decide) (k' := 0) (n' := 0) (by omega) (by omega) (by decide) (fun v51 S51_ m51_ h51 => ?_) (fun _ _ _ _ h => h.elim)
      obtain ⟨rfl, eS51, hm9, ht9⟩ := h51
      have eS51 := eS51.symm
      subst eS51
      have c9 : t.1 ≤ (tPut (tPut (tPut t 32) (48 + (n / 100))) (48 + (n % 10))).1 ∧ (tPut (tPut (tPut t 32) (48 + (n / 100))) (48 + (n % 10))).1 ≤ t.1 + 3 := by have q9 := c9; rw [tPut_1]; omega
      show zT G _ _ _ _ [] _ _ _ _ _ _
      refine zT.vret dX13_putNumber_54 rfl ?_
      refine ⟨rfl, rfl, hm9, ?_⟩
      unfold tNum tN3 tN2
      first
        | (exfalso; omega)
        | (rw [if_pos (by omega), if_pos (by omega)]; exact ht9)
        | (rw [if_pos (by omega), if_neg (by omega)]; exact ht9)
        | (rw [if_neg (by omega), if_neg (by omega)]; exact ht9)
    · refine zT.aload_n 0 dX13_putNumber_29 rfl rfl ?_
      refine zT.bipush dX13_putNumber_30 ?_
      refine zT.iload_n 1 dX13_putNumber_32 rfl rfl ?_
      refine zT.bipush dX13_putNumber_33 ?_
      refine zT.idiv dX13_putNumber_35 (by first | assumption | exact zq_i _ | exact zand_i _ _ | exact zor_i _ _ | exact zN _ | omega) (by first | assumption | exact zq_i _ | exact zand_i _ _ | exact zor_i _ _ | exact zN _ | omega) (by first | assumption | exact zq_i _ | exact zand_i _ _ | exact zor_i _ _ | exact zN _ | omega) (by first | assumption | exact zq_i _ | exact zand_i _ _ | exact zor_i _ _ | exact zN _ | omega) ?_
      refine zT.bipush dX13_putNumber_36 ?_
      refine zT.irem dX13_putNumber_38 (by first | assumption | exact zq_i _ | exact zand_i _ _ | exact zor_i _ _ | exact zN _ | omega) (by first | assumption | exact zq_i _ | exact zand_i _ _ | exact zor_i _ _ | exact zN _ | omega) (by first | assumption | exact zq_i _ | exact zand_i _ _ | exact zor_i _ _ | exact zN _ | omega) (by first | assumption | exact zq_i _ | exact zand_i _ _ | exact zor_i _ _ | exact zN _ | omega) ?_
      refine zT.iadd dX13_putNumber_39 ?_
      refine zT.callV (M' := mX13_put) (b := b) [zI (48 + ((n / 10) % 10))] [] dX13_putNumber_40 kX13_330 rfl rfl (ci := 10) (r := (RX13, TX13, 62)) rfl (zMod.k hb) (C_X13_put hb hm9 ht9 (by omega) (by first | assumption | exact zq_i _ | exact zand_i _ _ | exact zor_i _ _ | exact zN _ | omega) (by first | assumption | exact zq_i _ | exact zand_i _ _ | exact zor_i _ _ | exact zN _ | omega)) (by decide) (k' := 0) (n' := 0) (by omega) (by omega) (by decide) (fun v40 S40_ m40_ h40 => ?_) (fun _ _ _ _ h => h.elim)
      obtain ⟨rfl, eS40, hm9, ht9⟩ := h40
      have eS40 := eS40.symm
      subst eS40
      have c9 : t.1 ≤ (tPut (tPut (tPut t 32) (48 + (n / 100))) (48 + ((n / 10) % 10))).1 ∧ (tPut (tPut (tPut t 32) (48 + (n / 100))) (48 + ((n / 10) % 10))).1 ≤ t.1 + 3 := by have q9 := c9; rw [tPut_1]; omega
      show zT G _ _ _ _ [] _ _ _ _ _ _
      refine zT.aload_n 0 dX13_putNumber_43 rfl rfl ?_
      refine zT.bipush dX13_putNumber_44 ?_
      refine zT.iload_n 1 dX13_putNumber_46 rfl rfl ?_
      refine zT.bipush dX13_putNumber_47 ?_
      refine zT.irem dX13_putNumber_49 (by first | assumption | exact zq_i _ | exact zand_i _ _ | exact zor_i _ _ | exact zN _ | omega) (by first | assumption | exact zq_i _ | exact zand_i _ _ | exact zor_i _ _ | exact zN _ | omega) (by first | assumption | exact zq_i _ | exact zand_i _ _ | exact zor_i _ _ | exact zN _ | omega) (by first | assumption | exact zq_i _ | exact zand_i _ _ | exact zor_i _ _ | exact zN _ | omega) ?_
      refine zT.iadd dX13_putNumber_50 ?_
      refine zT.callV (M' := mX13_put) (b := b) [zI (48 + (n % 10))] [] dX13_putNumber_51 kX13_330 rfl rfl (ci := 10) (r := (RX13, TX13, 62)) rfl (zMod.k hb) (C_X13_put hb hm9 ht9 (by omega) (by first | assumption | exact zq_i _ | exact zand_i _ _ | exact zor_i _ _ | exact zN _ | omega) (by first | assumption | exact zq_i _ | exact zand_i _ _ | exact zor_i _ _ | exact zN _ | omega)) (by decide) (k' := 0) (n' := 0) (by omega) (by omega) (by decide) (fun v51 S51_ m51_ h51 => ?_) (fun _ _ _ _ h => h.elim)
      obtain ⟨rfl, eS51, hm9, ht9⟩ := h51
      have eS51 := eS51.symm
      subst eS51
      have c9 : t.1 ≤ (tPut (tPut (tPut (tPut t 32) (48 + (n / 100))) (48 + ((n / 10) % 10))) (48 + (n % 10))).1 ∧ (tPut (tPut (tPut (tPut t 32) (48 + (n / 100))) (48 + ((n / 10) % 10))) (48 + (n % 10))).1 ≤ t.1 + 4 := by have q9 := c9; rw [tPut_1]; omega
      show zT G _ _ _ _ [] _ _ _ _ _ _
      refine zT.vret dX13_putNumber_54 rfl ?_
      refine ⟨rfl, rfl, hm9, ?_⟩
      unfold tNum tN3 tN2
      first
        | (exfalso; omega)
        | (rw [if_pos (by omega), if_pos (by omega)]; exact ht9)
        | (rw [if_pos (by omega), if_neg (by omega)]; exact ht9)
        | (rw [if_neg (by omega), if_neg (by omega)]; exact ht9)

theorem zPw.trw {b : Int} {m m2 m3 : zMm} (h : zTw b m m2) (h2 : zPw b m2 m3) : zTw b m m3 := h.tr h2.tw
theorem zNmN_0 {f : Nat} {w : Int} (h : zNmN f w) : 0 < w ∧ 1 ≤ w % 27 ∧ 0 < f := by
  cases f with
  | zero => exact h.elim
  | succ f =>
    obtain ⟨a, c, d⟩ := h
    refine ⟨?_, a, by omega⟩
    rcases Int.lt_or_le 0 w with q | q
    · exact q
    · have : w = 0 := by omega
      subst this
      omega
theorem C_X13_putName {G : zG} {S : zS} {m m0 : zMm} {b : Int} {t : zTt} (hb : zMod S b) (hm : zTw b m0 m) (ht : yTt b m t) (ht0 : 0 ≤ t.1) {v : Int} (hz : zj v) (hv : 0 ≤ v) (hnm : v = 0 ∨ zNmN 6 v) (hn : t.1 + 6 < 9000) : zC G mX13_putName 1 0 0 [zR b, zJ v] S m (yTq S b m0 (tLw 6 v t)) zNX := by
  obtain ⟨R, hR9⟩ : ∃ z, z = tLw 6 v t := ⟨_, rfl⟩
  have hR9 := hR9.symm
  refine zC.of [zR b, zJ v, zU, zU, zU, zU] (by decide) rfl (zEn1 (zcR _) (zEn2 (zcJ _) (zEn0 (by simp)))) rfl ?_
  refine zT.iconst dX13_putName_0 ?_
  refine zT.istore_n 3 dX13_putName_1 rfl (by decide) (zpreU rfl) ?_
  show zT G _ _ _ [zR b, zJ v, zU, zI 0, zU, zU] _ _ _ _ _ _ _
  refine zT.lload_n 1 dX13_putName_2 rfl rfl ?_
  refine zT.lstore 4 dX13_putName_3 (by decide) (zpre1 rfl (zcI _)) ?_
  show zT G _ _ _ [zR b, zJ v, zU, zI 0, zJ v, zU] _ _ _ _ _ _ _
  have L5 : ∀ (N : Nat) (mA : zMm) (q : Nat) (w : Int) (n : Int), (n = (q : Int)) → (zTw b m0 mA) → (yTt b mA t) → (q ≤ 6) → (0 ≤ w ∧ w ≤ v) → (w = 0 ∨ zNmN (6 - q) w) → (tLs (mA (b + 12)) q (tLw (6 - q) w t) = R) → ((w).toNat) < N → zT G mX13_putName 1 5 [zR b, zJ v, zU, zI n, zJ w, zU] [] S mA 0 0 (yTq S b m0 (tLw 6 v t)) zNX := by
    intro N
    induction N with
    | zero => intro mA q w n hnq hmA htA q6 w0 hw hT hN; exact absurd hN (Nat.not_lt_zero _)
    | succ N ih5 =>
      intro mA q w n hnq hmA htA q6 w0 hw hT hN
      refine zT.lload 4 dX13_putName_5 rfl ?_
      refine zT.lconst dX13_putName_7 ?_
      show zT G _ _ _ _ (zJ 0 :: _) _ _ _ _ _ _
      refine zT.lc_le (tgt := 42) dX13_putName_8 dX13_putName_9 (by decide) (by first | assumption | exact zq_i _ | exact zand_i _ _ | exact zor_i _ _ | exact zN _ | omega) (by first | assumption | exact zq_i _ | exact zand_i _ _ | exact zor_i _ _ | exact zN _ | omega) (fun c8 => ?_) (fun c8 => ?_)
      · refine zT.iload_n 3 dX13_putName_42 rfl rfl ?_
        refine zT.iconst dX13_putName_43 ?_
        refine zT.isub dX13_putName_44 ?_
        refine zT.istore 4 dX13_putName_45 (by decide) (zpre1 rfl (zcI _)) ?_
        show zT G _ _ _ [zR b, zJ v, zU, zI n, zI (n - 1), zU] _ _ _ _ _ _ _
        have L47 : ∀ (N : Nat) (mB : zMm) (q2 : Nat) (k : Int) (tt : zTt), (zTw b m0 mB) → (yTt b mB tt) → (q2 ≤ 6) → (k = (q2 : Int) - 1) → (t.1 ≤ tt.1 ∧ tt.1 + (q2 : Int) ≤ t.1 + 6) → (tLs (mB (b + 12)) q2 tt = R) → q2 < N → zT G mX13_putName 1 47 [zR b, zJ v, zU, zU, zI k, zU] [] S mB 0 0 (yTq S b m0 (tLw 6 v t)) zNX := by
          intro N
          induction N with
          | zero => intro mB q2 k tt hmB htB hq2 hk hcb hT3 hN; exact absurd hN (Nat.not_lt_zero _)
          | succ N ih47 =>
            intro mB q2 k tt hmB htB hq2 hk hcb hT3 hN
            refine zT.iload 4 dX13_putName_47 rfl ?_
            refine zT.if_lt (tgt := 69) dX13_putName_49 (by decide) (by first | assumption | exact zq_i _ | exact zand_i _ _ | exact zor_i _ _ | exact zN _ | omega) (fun c49 => ?_) (fun c49 => ?_)
            · obtain rfl : q2 = 0 := by omega
              have hT : tt = R := hT3
              refine zT.vret dX13_putName_69 rfl ?_
              exact ⟨rfl, rfl, hmB, by rw [hR9, ← hT]; exact htB⟩
            · obtain ⟨j, rfl⟩ : ∃ j, q2 = j + 1 := ⟨q2 - 1, by omega⟩
              obtain rfl : k = (j : Int) := by omega
              have c9 : tt.1 ≤ tt.1 ∧ tt.1 ≤ tt.1 + 0 := by omega
              refine zT.aload_n 0 dX13_putName_52 rfl rfl ?_
              refine zT.aload_n 0 dX13_putName_53 rfl rfl ?_
              refine zT.getF dX13_putName_54 fX13_49 rfl (zMod.k hb) (j := 28) (by decide) rfl (zMod.f1028 hb) ?_
              refine zT.iload 4 dX13_putName_57 rfl ?_
              refine zT.iald dX13_putName_59 (zMod.a1028 hb) (by first | assumption | exact zq_i _ | exact zand_i _ _ | exact zor_i _ _ | exact zN _ | omega) (by rw [(zMod.n1028 hb)]; first | assumption | exact zq_i _ | exact zand_i _ _ | exact zor_i _ _ | exact zN _ | omega) (fun z59 => ?_)
              refine zT.callV (M' := mX13_put) (b := b) [zI (mB (b + 12) (j : Int))] [] dX13_putName_60 kX13_330 rfl rfl (ci := 10) (r := (RX13, TX13, 62)) rfl (zMod.k hb) (C_X13_put hb zPw.rf htB (by omega) (by first | assumption | exact zq_i _ | exact zand_i _ _ | exact zor_i _ _ | exact zN _ | omega) (by first | assumption | exact zq_i _ | exact zand_i _ _ | exact zor_i _ _ | exact zN _ | omega)) (by decide) (k' := 0) (n' := 0) (by omega) (by omega) (by decide) (fun v60 S60_ m60_ h60 => ?_) (fun _ _ _ _ h => h.elim)
              obtain ⟨rfl, eS60, hm9, ht9⟩ := h60
              have eS60 := eS60.symm
              subst eS60
              have c9 : tt.1 ≤ (tPut tt (mB (b + 12) (j : Int))).1 ∧ (tPut tt (mB (b + 12) (j : Int))).1 ≤ tt.1 + 1 := by have q9 := c9; rw [tPut_1]; omega
              show zT G _ _ _ _ [] _ _ _ _ _ _
              refine zT.iinc 4 dX13_putName_63 rfl (by decide) (zpreU rfl) ?_
              show zT G _ _ _ [zR b, zJ v, zU, zU, zI ((j : Int) + (-1)), zU] _ _ _ _ _ _ _
              refine zT.goto (tgt := 47) dX13_putName_66 (by decide) ?_
              exact ih47 _ j _ _ (by exact zPw.trw hmB hm9) (by exact ht9) (by omega) (by omega) (by rw [tPut_1]; omega) (by
                  rw [← hT3]
                  show _ = tLs (mB (b + 12)) j (tPut tt (mB (b + 12) (j : Int)))
                  exact tLs_c (fun i a c => hm9 _ _ (by omega) (by omega))) (by omega)
        refine zT.loc (V' := [zR b, zJ v, zU, zU, zI (n - 1), zU]) ?_ ⟨Or.inr rfl, Or.inr rfl, Or.inr rfl, Or.inl rfl, Or.inr rfl, Or.inr rfl, trivial⟩
        exact L47 _ _ q _ _ (by exact hmA) (by exact htA) (by exact q6) (by omega) (by omega) (by
            have w9 : w = 0 := by omega
            rw [w9, tLw_0 (by omega)] at hT
            exact hT) (Nat.lt_succ_self _)
      · subst hnq
        have hnw : zNmN (6 - q) w := by rcases hw with e | e; omega; exact e
        have hz0 := zNmN_0 hnw
        refine zT.aload_n 0 dX13_putName_12 rfl rfl ?_
        refine zT.getF dX13_putName_13 fX13_49 rfl (zMod.k hb) (j := 28) (by decide) rfl (zMod.f1028 hb) ?_
        refine zT.iload_n 3 dX13_putName_16 rfl rfl ?_
        refine zT.lload 4 dX13_putName_17 rfl ?_
        refine zT.ldc2 27 q1647 (by decide +kernel) dX13_putName_19 ?_
        refine zT.lrem dX13_putName_22 (by first | assumption | exact zq_i _ | exact zand_i _ _ | exact zor_i _ _ | exact zN _ | omega) (by first | assumption | exact zq_i _ | exact zand_i _ _ | exact zor_i _ _ | exact zN _ | omega) (by first | assumption | exact zq_i _ | exact zand_i _ _ | exact zor_i _ _ | exact zN _ | omega) (by first | assumption | exact zq_i _ | exact zand_i _ _ | exact zor_i _ _ | exact zN _ | omega) ?_
        refine zT.l2i dX13_putName_23 ?_
        refine zT.bipush dX13_putName_24 ?_
        refine zT.iadd dX13_putName_26 ?_
        refine zT.iast dX13_putName_27 (zMod.a1028 hb) (by first | assumption | exact zq_i _ | exact zand_i _ _ | exact zor_i _ _ | exact zN _ | omega) (by rw [(zMod.n1028 hb)]; first | assumption | exact zq_i _ | exact zand_i _ _ | exact zor_i _ _ | exact zN _ | omega) (by first | assumption | exact zq_i _ | exact zand_i _ _ | exact zor_i _ _ | exact zN _ | omega) ?_
        obtain ⟨m1, em1⟩ : ∃ z, z = zup mA (b + 12) (q : Int) ((w % 27) + 96) := ⟨_, rfl⟩
        rw [← em1]
        refine zT.iinc 3 dX13_putName_28 rfl (by decide) (zpreU rfl) ?_
        show zT G _ _ _ [zR b, zJ v, zU, zI ((q : Int) + 1), zJ w, zU] _ _ _ _ _ _ _
        refine zT.lload 4 dX13_putName_31 rfl ?_
        refine zT.ldc2 27 q1647 (by decide +kernel) dX13_putName_33 ?_
        refine zT.ldiv dX13_putName_36 (by first | assumption | exact zq_i _ | exact zand_i _ _ | exact zor_i _ _ | exact zN _ | omega) (by first | assumption | exact zq_i _ | exact zand_i _ _ | exact zor_i _ _ | exact zN _ | omega) (by first | assumption | exact zq_i _ | exact zand_i _ _ | exact zor_i _ _ | exact zN _ | omega) (by first | assumption | exact zq_i _ | exact zand_i _ _ | exact zor_i _ _ | exact zN _ | omega) ?_
        refine zT.lstore 4 dX13_putName_37 (by decide) (zpre1 rfl (zcI _)) ?_
        show zT G _ _ _ [zR b, zJ v, zU, zI ((q : Int) + 1), zJ (w / 27), zU] _ _ _ _ _ _ _
        have hm2 : zTw b m0 m1 := by
                  rw [em1]
                  exact hmA.tr (zSc.rf.up (by omega) (by unfold zUw; omega)).tw
        have ht2 : yTt b m1 t := by rw [em1]; exact htA.of (zup_ne (by omega)) (fun j => zup_ne (by omega))
        obtain ⟨f, hf⟩ : ∃ f, 6 - q = f + 1 := ⟨6 - q - 1, by omega⟩
        rw [hf] at hnw hT
        obtain ⟨n1, n2, n3⟩ := hnw
        have ef : 6 - (q + 1) = f := by omega
        have hw2 : w / 27 = 0 ∨ zNmN (6 - (q + 1)) (w / 27) := by rw [ef]; exact n3
        have hT2 : tLs (m1 (b + 12)) (q + 1) (tLw (6 - (q + 1)) (w / 27) t) = R := by
                  rw [ef, ← hT]
                  conv => rhs; unfold tLw
                  rw [if_neg (by omega)]
                  show tLs (m1 (b + 12)) q (tPut (tLw f (w / 27) t) (m1 (b + 12) (q : Int))) = _
                  rw [show m1 (b + 12) (q : Int) = w % 27 + 96 by rw [em1, zup_at]]
                  exact tLs_c (fun i a c => by rw [em1, zup_ne (by omega)])
        refine zT.goto (tgt := 5) dX13_putName_39 (by decide) ?_
        exact ih5 _ (q + 1) _ _ (by omega) (by exact hm2) (by exact ht2) (by omega) (by omega) (by exact hw2) (by exact hT2) (by omega)
  exact L5 _ _ 0 _ _ (by rfl) (by exact hm) (by exact ht) (by omega) (by omega) (by exact hnm) (by exact hR9) (Nat.lt_succ_self _)

theorem C_X13_write {G : zG} {S : zS} {m : zMm} {b : Int} {A : zMm} (hb : zMod S b) (hA : yEq m b A) (hV : aVd A) (hsl : ∀ k, 0 ≤ k → k < A 2 58 → (aGo (A 2) 58) k 0 < (aK (A 0 1023) (A 2)) 5) : zC G mX13_write 2 0 0 [zR b] S m (fun v S' m' => v = some (zI (tWr (A 6) (aGo (A 2) 58) (A 2 58).toNat).1) ∧ S' = S ∧ zIn b m m' ∧ yEw m' b (uTx (zup A 0 1000 0) ((tWr (A 6) (aGo (A 2) 58) (A 2 58).toNat).1, m' (b + 11))) ∧ ∀ i, 0 ≤ i → i < (tWr (A 6) (aGo (A 2) 58) (A 2 58).toNat).1 → m' (b + 11) i = (tWr (A 6) (aGo (A 2) 58) (A 2 58).toNat).2 i) zNX := by
  have ym := hA.R hV
  have nm := ym.n
  have sm := ym.s
  have rm := ym.r
  have hk := hV.ki.1
  have hk0 := hk.1
  have hp0 := hV.pl.1
  have hp1 := hV.pl.2.1
  refine zC.of [zR b, zU, zU] (by decide) rfl (zEn1 (zcR _) (zEn0 (by simp))) rfl ?_
  refine zT.rng hb.a1014 (fun zN => ?_)
  obtain ⟨Q9, eQ9⟩ : ∃ z : zQt, z = (fun v S' m' => v = some (zI (tWr (A 6) (aGo (A 2) 58) (A 2 58).toNat).1) ∧ S' = S ∧ zIn b m m' ∧ yEw m' b (uTx (zup A 0 1000 0) ((tWr (A 6) (aGo (A 2) 58) (A 2 58).toNat).1, m' (b + 11))) ∧ ∀ i, 0 ≤ i → i < (tWr (A 6) (aGo (A 2) 58) (A 2 58).toNat).1 → m' (b + 11) i = (tWr (A 6) (aGo (A 2) 58) (A 2 58).toNat).2 i) := ⟨_, rfl⟩
  rw [← eQ9]
  refine zT.aload_n 0 dX13_write_0 rfl rfl ?_
  refine zT.iconst dX13_write_1 ?_
  refine zT.putI dX13_write_2 fX13_122 zs_1000 rfl (zMod.k hb) (j := 0) (by decide) rfl (by first | assumption | exact zq_i _ | exact zand_i _ _ | exact zor_i _ _ | exact zN _ | omega) ?_
  obtain ⟨m1, em1⟩ : ∃ z, z = zup m b 1000 0 := ⟨_, rfl⟩
  rw [← em1]
  have ym1 : yR m1 b A := by rw [em1]; exact ym.up (by omega)
  have nm1 := ym1.n
  have sm1 := ym1.s
  have rm1 := ym1.r
  refine zT.aload_n 0 dX13_write_5 rfl rfl ?_
  refine zT.iconst dX13_write_6 ?_
  refine zT.putI dX13_write_7 fX13_327 zs_1029 rfl (zMod.k hb) (j := 29) (by decide) rfl (by first | assumption | exact zq_i _ | exact zand_i _ _ | exact zor_i _ _ | exact zN _ | omega) ?_
  obtain ⟨m2, em2⟩ : ∃ z, z = zup m1 b 1029 0 := ⟨_, rfl⟩
  rw [← em2]
  have ym2 : yR m2 b A := by rw [em2]; exact ym1.up (by omega)
  have nm2 := ym2.n
  have sm2 := ym2.s
  have rm2 := ym2.r
  refine zT.iconst dX13_write_10 ?_
  refine zT.istore_n 1 dX13_write_11 rfl (by decide) (zpre1 rfl (zcR _)) ?_
  show zT G _ _ _ [zR b, zI 0, zU] _ _ _ _ _ _ _
  have L12 : ∀ (N : Nat) (mA : zMm) (k : Int), (zTw b m1 mA) → (yTt b mA (tWr (A 6) (aGo (A 2) 58) k.toNat)) → (0 ≤ k) → (k ≤ A 2 58) → (0 ≤ (tWr (A 6) (aGo (A 2) 58) k.toNat).1 ∧ (tWr (A 6) (aGo (A 2) 58) k.toNat).1 ≤ 19 * k) → ((A 2 58 - k).toNat) < N → zT G mX13_write 2 12 [zR b, zI k, zU] [] S mA 0 0 Q9 zNX := by
    intro N
    induction N with
    | zero => intro mA k hmN htA k0 k1 hc9 hN; exact absurd hN (Nat.not_lt_zero _)
    | succ N ih12 =>
      intro mA k hmN htA k0 k1 hc9 hN
      obtain ⟨tt, ett⟩ : ∃ z, z = tWr (A 6) (aGo (A 2) 58) k.toNat := ⟨_, rfl⟩
      rw [← ett] at htA hc9
      have yA := ym1.row (fun j => hmN.row j)
      have nA := yA.n
      have c9 : tt.1 ≤ tt.1 ∧ tt.1 ≤ tt.1 + 0 := by omega
      refine zT.iload_n 1 dX13_write_12 rfl rfl ?_
      refine zT.aload_n 0 dX13_write_13 rfl rfl ?_
      refine zT.callV (M' := mX13_goes) (b := b) [] [zI k] dX13_write_14 kX13_284 rfl rfl (ci := 10) (r := (RX13, TX13, 62)) rfl (zMod.k hb) (C_X13_goes hb) (by decide) (k' := 0) (n' := 0) (by omega) (by omega) (by simp only [List.map, zcI, zcJ, zcR, List.sum_cons, List.sum_nil]; decide) (zdk (v := some (zI (mA (b + 2) (58)))) ?_) (fun _ _ _ _ h => h.elim)
      show zT G _ _ _ _ [zI (mA (b + 2) (58)), zI k] _ _ _ _ _ _
      refine zT.ic_ge (tgt := 96) dX13_write_17 (by decide) (by first | assumption | exact zq_i _ | exact zand_i _ _ | exact zor_i _ _ | exact zN _ | omega) (by first | assumption | exact zq_i _ | exact zand_i _ _ | exact zor_i _ _ | exact zN _ | omega) (fun c17 => ?_) (fun c17 => ?_)
      · refine zT.aload_n 0 dX13_write_96 rfl rfl ?_
        refine zT.getI dX13_write_97 fX13_327 rfl (zMod.k hb) (j := 29) (by decide) rfl (fun z97 => ?_)
        refine zT.iret dX13_write_100 rfl ?_
        rw [eQ9]
        rw [show k = A 2 58 by omega] at ett
        rw [ett] at htA
        have hI1 : zIn b m m1 := by rw [em1]; exact zIn.rf.up0
        have hE1 : yEw m1 b (zup A 0 1000 0) := by rw [em1]; exact hA.up0.w
        exact ⟨by rw [htA.1], rfl, hI1.tr hmN.inn, hE1.tx hmN htA, htA.2⟩
      · have gv := hV.pl.2.2 k (by omega) (by omega)
        have hs := hsl k (by omega) (by omega)
        have hz7 : zNm (A 6 ((aGo (A 2) 58) k 0)) := hV.ki.2 _ (by omega) (by omega)
        have hz6 := zNmN_0 hz7
        have hz8 : 0 ≤ A 6 ((aGo (A 2) 58) k 0) := by omega
        refine zT.aload_n 0 dX13_write_20 rfl rfl ?_
        refine zT.aload_n 0 dX13_write_21 rfl rfl ?_
        refine zT.getF dX13_write_22 fX13_25 rfl (zMod.k hb) (j := 18) (by decide) rfl (zMod.f1018 hb) ?_
        refine zT.aload_n 0 dX13_write_25 rfl rfl ?_
        refine zT.iload_n 1 dX13_write_26 rfl rfl ?_
        refine zT.iconst dX13_write_27 ?_
        refine zT.callV (M' := mX13_go5) (b := b) [zI k, zI 0] [zR (b + 6), zR b] dX13_write_28 kX13_280 rfl rfl (ci := 10) (r := (RX13, TX13, 62)) rfl (zMod.k hb) (C_X13_go5 hb (by first | assumption | exact zq_i _ | exact zand_i _ _ | exact zor_i _ _ | exact zN _ | omega) (by first | assumption | exact zq_i _ | exact zand_i _ _ | exact zor_i _ _ | exact zN _ | omega)) (by decide) (k' := 0) (n' := 0) (by omega) (by omega) (by simp only [List.map, zcI, zcJ, zcR, List.sum_cons, List.sum_nil]; decide) (zdk (v := some (zI (mA (b + 2) (59 + 5 * k + 0)))) ?_) (fun _ _ _ _ h => h.elim)
        show zT G _ _ _ _ [zI (mA (b + 2) (59 + 5 * k + 0)), zR (b + 6), zR b] _ _ _ _ _ _
        have ge0 := yA.g.2 k 0 (by omega) (by omega) (by omega) (by omega)
        rw [ge0]
        show zT G _ _ _ _ [zI ((aGo (A 2) 58) k 0), zR (b + 6), zR b] _ _ _ _ _ _
        refine zT.lald dX13_write_31 (zMod.a1018 hb) (by first | assumption | exact zq_i _ | exact zand_i _ _ | exact zor_i _ _ | exact zN _ | omega) (by rw [(zMod.n1018 hb)]; first | assumption | exact zq_i _ | exact zand_i _ _ | exact zor_i _ _ | exact zN _ | omega) (fun z31 => ?_)
        have en6 : mA (b + 6) ((aGo (A 2) 58) k 0) = A 6 ((aGo (A 2) 58) k 0) := by rw [hmN.nam, em1, zup_ne (by omega), hA 6 _ (by omega) (by omega)]
        rw [en6] at z31 ⊢
        have hz9 : zj (A 6 ((aGo (A 2) 58) k 0)) := z31
        show zT G _ _ _ _ [zJ (A 6 ((aGo (A 2) 58) k 0)), zR b] _ _ _ _ _ _
        refine zT.callV (M' := mX13_putName) (b := b) [zJ (A 6 ((aGo (A 2) 58) k 0))] [] dX13_write_32 kX13_333 rfl rfl (ci := 10) (r := (RX13, TX13, 62)) rfl (zMod.k hb) (C_X13_putName hb hmN htA (by omega) hz9 hz8 (Or.inr hz7) (by omega)) (by decide) (k' := 0) (n' := 0) (by omega) (by omega) (by decide) (fun v32 S32_ m32_ h32 => ?_) (fun _ _ _ _ h => h.elim)
        obtain ⟨rfl, eS32, hmN, ht9⟩ := h32
        have eS32 := eS32.symm
        subst eS32
        have c9 : tt.1 ≤ (tLw 6 (A 6 ((aGo (A 2) 58) k 0)) tt).1 ∧ (tLw 6 (A 6 ((aGo (A 2) 58) k 0)) tt).1 ≤ tt.1 + 6 := by have q9 := c9; have z9 := tLw_1 (f := 6) (w := A 6 ((aGo (A 2) 58) k 0)) (t := tt); omega
        show zT G _ _ _ _ [] _ _ _ _ _ _
        refine zT.aload_n 0 dX13_write_35 rfl rfl ?_
        refine zT.bipush dX13_write_36 ?_
        refine zT.callV (M' := mX13_put) (b := b) [zI 32] [] dX13_write_38 kX13_330 rfl rfl (ci := 10) (r := (RX13, TX13, 62)) rfl (zMod.k hb) (C_X13_put hb zPw.rf ht9 (by omega) (by first | assumption | exact zq_i _ | exact zand_i _ _ | exact zor_i _ _ | exact zN _ | omega) (by first | assumption | exact zq_i _ | exact zand_i _ _ | exact zor_i _ _ | exact zN _ | omega)) (by decide) (k' := 0) (n' := 0) (by omega) (by omega) (by decide) (fun v38 S38_ m38_ h38 => ?_) (fun _ _ _ _ h => h.elim)
        obtain ⟨rfl, eS38, hm9, ht9⟩ := h38
        have eS38 := eS38.symm
        subst eS38
        have c9 : tt.1 ≤ (tPut (tLw 6 (A 6 ((aGo (A 2) 58) k 0)) tt) 32).1 ∧ (tPut (tLw 6 (A 6 ((aGo (A 2) 58) k 0)) tt) 32).1 ≤ tt.1 + 7 := by have q9 := c9; rw [tPut_1]; omega
        show zT G _ _ _ _ [] _ _ _ _ _ _
        refine zT.aload_n 0 dX13_write_41 rfl rfl ?_
        refine zT.aload_n 0 dX13_write_42 rfl rfl ?_
        refine zT.iload_n 1 dX13_write_43 rfl rfl ?_
        refine zT.iconst dX13_write_44 ?_
        refine zT.callV (M' := mX13_go5) (b := b) [zI k, zI 1] [zR b] dX13_write_45 kX13_280 rfl rfl (ci := 10) (r := (RX13, TX13, 62)) rfl (zMod.k hb) (C_X13_go5 hb (by first | assumption | exact zq_i _ | exact zand_i _ _ | exact zor_i _ _ | exact zN _ | omega) (by first | assumption | exact zq_i _ | exact zand_i _ _ | exact zor_i _ _ | exact zN _ | omega)) (by decide) (k' := 0) (n' := 0) (by omega) (by omega) (by simp only [List.map, zcI, zcJ, zcR, List.sum_cons, List.sum_nil]; decide) (zdk (v := some (zI (m38_ (b + 2) (59 + 5 * k + 1)))) ?_) (fun _ _ _ _ h => h.elim)
        show zT G _ _ _ _ [zI (m38_ (b + 2) (59 + 5 * k + 1)), zR b] _ _ _ _ _ _
        have yg := ym1.row (fun j => (zPw.trw hmN hm9).row j)
        have ge1 := yg.g.2 k 1 (by omega) (by omega) (by omega) (by omega)
        rw [ge1]
        show zT G _ _ _ _ [zI ((aGo (A 2) 58) k 1), zR b] _ _ _ _ _ _
        refine zT.if_ne (tgt := 56) dX13_write_48 (by decide) (by first | assumption | exact zq_i _ | exact zand_i _ _ | exact zor_i _ _ | exact zN _ | omega) (fun c48 => ?_) (fun c48 => ?_)
        · refine zT.bipush dX13_write_56 ?_
          refine zT.callV (M' := mX13_put) (b := b) [zI 117] [] dX13_write_58 kX13_330 rfl rfl (ci := 10) (r := (RX13, TX13, 62)) rfl (zMod.k hb) (C_X13_put hb hm9 ht9 (by omega) (by first | assumption | exact zq_i _ | exact zand_i _ _ | exact zor_i _ _ | exact zN _ | omega) (by first | assumption | exact zq_i _ | exact zand_i _ _ | exact zor_i _ _ | exact zN _ | omega)) (by decide) (k' := 0) (n' := 0) (by omega) (by omega) (by decide) (fun v58 S58_ m58_ h58 => ?_) (fun _ _ _ _ h => h.elim)
          obtain ⟨rfl, eS58, hm9, ht9⟩ := h58
          have eS58 := eS58.symm
          subst eS58
          have c9 : tt.1 ≤ (tPut (tPut (tLw 6 (A 6 ((aGo (A 2) 58) k 0)) tt) 32) 117).1 ∧ (tPut (tPut (tLw 6 (A 6 ((aGo (A 2) 58) k 0)) tt) 32) 117).1 ≤ tt.1 + 8 := by have q9 := c9; rw [tPut_1]; omega
          show zT G _ _ _ _ [] _ _ _ _ _ _
          refine zT.iconst dX13_write_61 ?_
          refine zT.istore_n 2 dX13_write_62 rfl (by decide) (zpre1 rfl (zcI _)) ?_
          show zT G _ _ _ [zR b, zI k, zI 2] _ _ _ _ _ _ _
          refine zT.iload_n 2 dX13_write_63 rfl rfl ?_
          refine zT.iconst dX13_write_64 ?_
          refine zT.ic_ge (tgt := 84) dX13_write_65 (by decide) (by first | assumption | exact zq_i _ | exact zand_i _ _ | exact zor_i _ _ | exact zN _ | omega) (by first | assumption | exact zq_i _ | exact zand_i _ _ | exact zor_i _ _ | exact zN _ | omega) (fun c65 => absurd c65 (by decide)) (fun c65 => ?_)
          refine zT.aload_n 0 dX13_write_68 rfl rfl ?_
          refine zT.aload_n 0 dX13_write_69 rfl rfl ?_
          refine zT.iload_n 1 dX13_write_70 rfl rfl ?_
          refine zT.iload_n 2 dX13_write_71 rfl rfl ?_
          refine zT.callV (M' := mX13_go5) (b := b) [zI k, zI 2] [zR b] dX13_write_72 kX13_280 rfl rfl (ci := 10) (r := (RX13, TX13, 62)) rfl (zMod.k hb) (C_X13_go5 hb (by first | assumption | exact zq_i _ | exact zand_i _ _ | exact zor_i _ _ | exact zN _ | omega) (by first | assumption | exact zq_i _ | exact zand_i _ _ | exact zor_i _ _ | exact zN _ | omega)) (by decide) (k' := 0) (n' := 0) (by omega) (by omega) (by simp only [List.map, zcI, zcJ, zcR, List.sum_cons, List.sum_nil]; decide) (zdk (v := some (zI (m58_ (b + 2) (59 + 5 * k + 2)))) ?_) (fun _ _ _ _ h => h.elim)
          show zT G _ _ _ _ [zI (m58_ (b + 2) (59 + 5 * k + 2)), zR b] _ _ _ _ _ _
          have yg := ym1.row (fun j => (zPw.trw hmN hm9).row j)
          have ge2 := yg.g.2 k 2 (by omega) (by omega) (by omega) (by omega)
          rw [ge2]
          show zT G _ _ _ _ [zI ((aGo (A 2) 58) k 2), zR b] _ _ _ _ _ _
          refine zT.callV (M' := mX13_putNumber) (b := b) [zI ((aGo (A 2) 58) k 2)] [] dX13_write_75 kX13_337 rfl rfl (ci := 10) (r := (RX13, TX13, 62)) rfl (zMod.k hb) (C_X13_putNumber hb hm9 ht9 (by omega) (by first | assumption | exact zq_i _ | exact zand_i _ _ | exact zor_i _ _ | exact zN _ | omega) (by first | assumption | exact zq_i _ | exact zand_i _ _ | exact zor_i _ _ | exact zN _ | omega)) (by decide) (k' := 0) (n' := 0) (by omega) (by omega) (by decide) (fun v75 S75_ m75_ h75 => ?_) (fun _ _ _ _ h => h.elim)
          obtain ⟨rfl, eS75, hm9, ht9⟩ := h75
          have eS75 := eS75.symm
          subst eS75
          have c9 : tt.1 ≤ (tNum (tPut (tPut (tLw 6 (A 6 ((aGo (A 2) 58) k 0)) tt) 32) 117) ((aGo (A 2) 58) k 2)).1 ∧ (tNum (tPut (tPut (tLw 6 (A 6 ((aGo (A 2) 58) k 0)) tt) 32) 117) ((aGo (A 2) 58) k 2)).1 ≤ tt.1 + 12 := by have q9 := c9; have z9 := tNum_1 (t := tPut (tPut (tLw 6 (A 6 ((aGo (A 2) 58) k 0)) tt) 32) 117) (n := (aGo (A 2) 58) k 2); omega
          show zT G _ _ _ _ [] _ _ _ _ _ _
          refine zT.iinc 2 dX13_write_78 rfl (by decide) (zpre1 rfl (zcI _)) ?_
          show zT G _ _ _ [zR b, zI k, zI 3] _ _ _ _ _ _ _
          refine zT.goto (tgt := 63) dX13_write_81 (by decide) ?_
          refine zT.iload_n 2 dX13_write_63 rfl rfl ?_
          refine zT.iconst dX13_write_64 ?_
          refine zT.ic_ge (tgt := 84) dX13_write_65 (by decide) (by first | assumption | exact zq_i _ | exact zand_i _ _ | exact zor_i _ _ | exact zN _ | omega) (by first | assumption | exact zq_i _ | exact zand_i _ _ | exact zor_i _ _ | exact zN _ | omega) (fun c65 => absurd c65 (by decide)) (fun c65 => ?_)
          refine zT.aload_n 0 dX13_write_68 rfl rfl ?_
          refine zT.aload_n 0 dX13_write_69 rfl rfl ?_
          refine zT.iload_n 1 dX13_write_70 rfl rfl ?_
          refine zT.iload_n 2 dX13_write_71 rfl rfl ?_
          refine zT.callV (M' := mX13_go5) (b := b) [zI k, zI 3] [zR b] dX13_write_72 kX13_280 rfl rfl (ci := 10) (r := (RX13, TX13, 62)) rfl (zMod.k hb) (C_X13_go5 hb (by first | assumption | exact zq_i _ | exact zand_i _ _ | exact zor_i _ _ | exact zN _ | omega) (by first | assumption | exact zq_i _ | exact zand_i _ _ | exact zor_i _ _ | exact zN _ | omega)) (by decide) (k' := 0) (n' := 0) (by omega) (by omega) (by simp only [List.map, zcI, zcJ, zcR, List.sum_cons, List.sum_nil]; decide) (zdk (v := some (zI (m75_ (b + 2) (59 + 5 * k + 3)))) ?_) (fun _ _ _ _ h => h.elim)
          show zT G _ _ _ _ [zI (m75_ (b + 2) (59 + 5 * k + 3)), zR b] _ _ _ _ _ _
          have yg := ym1.row (fun j => (zPw.trw hmN hm9).row j)
          have ge3 := yg.g.2 k 3 (by omega) (by omega) (by omega) (by omega)
          rw [ge3]
          show zT G _ _ _ _ [zI ((aGo (A 2) 58) k 3), zR b] _ _ _ _ _ _
          refine zT.callV (M' := mX13_putNumber) (b := b) [zI ((aGo (A 2) 58) k 3)] [] dX13_write_75 kX13_337 rfl rfl (ci := 10) (r := (RX13, TX13, 62)) rfl (zMod.k hb) (C_X13_putNumber hb hm9 ht9 (by omega) (by first | assumption | exact zq_i _ | exact zand_i _ _ | exact zor_i _ _ | exact zN _ | omega) (by first | assumption | exact zq_i _ | exact zand_i _ _ | exact zor_i _ _ | exact zN _ | omega)) (by decide) (k' := 0) (n' := 0) (by omega) (by omega) (by decide) (fun v75 S75_ m75_ h75 => ?_) (fun _ _ _ _ h => h.elim)
          obtain ⟨rfl, eS75, hm9, ht9⟩ := h75
          have eS75 := eS75.symm
          subst eS75
          have c9 : tt.1 ≤ (tNum (tNum (tPut (tPut (tLw 6 (A 6 ((aGo (A 2) 58) k 0)) tt) 32) 117) ((aGo (A 2) 58) k 2)) ((aGo (A 2) 58) k 3)).1 ∧ (tNum (tNum (tPut (tPut (tLw 6 (A 6 ((aGo (A 2) 58) k 0)) tt) 32) 117) ((aGo (A 2) 58) k 2)) ((aGo (A 2) 58) k 3)).1 ≤ tt.1 + 16 := by have q9 := c9; have z9 := tNum_1 (t := tNum (tPut (tPut (tLw 6 (A 6 ((aGo (A 2) 58) k 0)) tt) 32) 117) ((aGo (A 2) 58) k 2)) (n := (aGo (A 2) 58) k 3); omega
          show zT G _ _ _ _ [] _ _ _ _ _ _
          refine zT.iinc 2 dX13_write_78 rfl (by decide) (zpre1 rfl (zcI _)) ?_
          show zT G _ _ _ [zR b, zI k, zI 4] _ _ _ _ _ _ _
          refine zT.goto (tgt := 63) dX13_write_81 (by decide) ?_
          refine zT.iload_n 2 dX13_write_63 rfl rfl ?_
          refine zT.iconst dX13_write_64 ?_
          refine zT.ic_ge (tgt := 84) dX13_write_65 (by decide) (by first | assumption | exact zq_i _ | exact zand_i _ _ | exact zor_i _ _ | exact zN _ | omega) (by first | assumption | exact zq_i _ | exact zand_i _ _ | exact zor_i _ _ | exact zN _ | omega) (fun c65 => absurd c65 (by decide)) (fun c65 => ?_)
          refine zT.aload_n 0 dX13_write_68 rfl rfl ?_
          refine zT.aload_n 0 dX13_write_69 rfl rfl ?_
          refine zT.iload_n 1 dX13_write_70 rfl rfl ?_
          refine zT.iload_n 2 dX13_write_71 rfl rfl ?_
          refine zT.callV (M' := mX13_go5) (b := b) [zI k, zI 4] [zR b] dX13_write_72 kX13_280 rfl rfl (ci := 10) (r := (RX13, TX13, 62)) rfl (zMod.k hb) (C_X13_go5 hb (by first | assumption | exact zq_i _ | exact zand_i _ _ | exact zor_i _ _ | exact zN _ | omega) (by first | assumption | exact zq_i _ | exact zand_i _ _ | exact zor_i _ _ | exact zN _ | omega)) (by decide) (k' := 0) (n' := 0) (by omega) (by omega) (by simp only [List.map, zcI, zcJ, zcR, List.sum_cons, List.sum_nil]; decide) (zdk (v := some (zI (m75_ (b + 2) (59 + 5 * k + 4)))) ?_) (fun _ _ _ _ h => h.elim)
          show zT G _ _ _ _ [zI (m75_ (b + 2) (59 + 5 * k + 4)), zR b] _ _ _ _ _ _
          have yg := ym1.row (fun j => (zPw.trw hmN hm9).row j)
          have ge4 := yg.g.2 k 4 (by omega) (by omega) (by omega) (by omega)
          rw [ge4]
          show zT G _ _ _ _ [zI ((aGo (A 2) 58) k 4), zR b] _ _ _ _ _ _
          refine zT.callV (M' := mX13_putNumber) (b := b) [zI ((aGo (A 2) 58) k 4)] [] dX13_write_75 kX13_337 rfl rfl (ci := 10) (r := (RX13, TX13, 62)) rfl (zMod.k hb) (C_X13_putNumber hb hm9 ht9 (by omega) (by first | assumption | exact zq_i _ | exact zand_i _ _ | exact zor_i _ _ | exact zN _ | omega) (by first | assumption | exact zq_i _ | exact zand_i _ _ | exact zor_i _ _ | exact zN _ | omega)) (by decide) (k' := 0) (n' := 0) (by omega) (by omega) (by decide) (fun v75 S75_ m75_ h75 => ?_) (fun _ _ _ _ h => h.elim)
          obtain ⟨rfl, eS75, hm9, ht9⟩ := h75
          have eS75 := eS75.symm
          subst eS75
          have c9 : tt.1 ≤ (tNum (tNum (tNum (tPut (tPut (tLw 6 (A 6 ((aGo (A 2) 58) k 0)) tt) 32) 117) ((aGo (A 2) 58) k 2)) ((aGo (A 2) 58) k 3)) ((aGo (A 2) 58) k 4)).1 ∧ (tNum (tNum (tNum (tPut (tPut (tLw 6 (A 6 ((aGo (A 2) 58) k 0)) tt) 32) 117) ((aGo (A 2) 58) k 2)) ((aGo (A 2) 58) k 3)) ((aGo (A 2) 58) k 4)).1 ≤ tt.1 + 20 := by have q9 := c9; have z9 := tNum_1 (t := tNum (tNum (tPut (tPut (tLw 6 (A 6 ((aGo (A 2) 58) k 0)) tt) 32) 117) ((aGo (A 2) 58) k 2)) ((aGo (A 2) 58) k 3)) (n := (aGo (A 2) 58) k 4); omega
          show zT G _ _ _ _ [] _ _ _ _ _ _
          refine zT.iinc 2 dX13_write_78 rfl (by decide) (zpre1 rfl (zcI _)) ?_
          show zT G _ _ _ [zR b, zI k, zI 5] _ _ _ _ _ _ _
          refine zT.goto (tgt := 63) dX13_write_81 (by decide) ?_
          refine zT.iload_n 2 dX13_write_63 rfl rfl ?_
          refine zT.iconst dX13_write_64 ?_
          refine zT.ic_ge (tgt := 84) dX13_write_65 (by decide) (by first | assumption | exact zq_i _ | exact zand_i _ _ | exact zor_i _ _ | exact zN _ | omega) (by first | assumption | exact zq_i _ | exact zand_i _ _ | exact zor_i _ _ | exact zN _ | omega) (fun c65 => ?_) (fun c65 => absurd c65 (by decide))
          refine zT.aload_n 0 dX13_write_84 rfl rfl ?_
          refine zT.bipush dX13_write_85 ?_
          refine zT.callV (M' := mX13_put) (b := b) [zI 59] [] dX13_write_87 kX13_330 rfl rfl (ci := 10) (r := (RX13, TX13, 62)) rfl (zMod.k hb) (C_X13_put hb hm9 ht9 (by omega) (by first | assumption | exact zq_i _ | exact zand_i _ _ | exact zor_i _ _ | exact zN _ | omega) (by first | assumption | exact zq_i _ | exact zand_i _ _ | exact zor_i _ _ | exact zN _ | omega)) (by decide) (k' := 0) (n' := 0) (by omega) (by omega) (by decide) (fun v87 S87_ m87_ h87 => ?_) (fun _ _ _ _ h => h.elim)
          obtain ⟨rfl, eS87, hm9, ht9⟩ := h87
          have eS87 := eS87.symm
          subst eS87
          have c9 : tt.1 ≤ (tPut (tNum (tNum (tNum (tPut (tPut (tLw 6 (A 6 ((aGo (A 2) 58) k 0)) tt) 32) 117) ((aGo (A 2) 58) k 2)) ((aGo (A 2) 58) k 3)) ((aGo (A 2) 58) k 4)) 59).1 ∧ (tPut (tNum (tNum (tNum (tPut (tPut (tLw 6 (A 6 ((aGo (A 2) 58) k 0)) tt) 32) 117) ((aGo (A 2) 58) k 2)) ((aGo (A 2) 58) k 3)) ((aGo (A 2) 58) k 4)) 59).1 ≤ tt.1 + 21 := by have q9 := c9; rw [tPut_1]; omega
          show zT G _ _ _ _ [] _ _ _ _ _ _
          refine zT.iinc 1 dX13_write_90 rfl (by decide) (zpre1 rfl (zcR _)) ?_
          show zT G _ _ _ [zR b, zI (k + 1), zI 5] _ _ _ _ _ _ _
          refine zT.goto (tgt := 12) dX13_write_93 (by decide) ?_
          refine zT.loc (V' := [zR b, zI (k + 1), zU]) ?_ ⟨Or.inr rfl, Or.inr rfl, Or.inl rfl, trivial⟩
          exact ih12 _ _ (by exact zPw.trw hmN hm9) (by
              have e9 : tWr (A 6) (aGo (A 2) 58) (k + 1).toNat = tGo (A 6) (aGo (A 2) 58) k tt := by rw [show (k + 1).toNat = k.toNat + 1 by omega, ett]; show tGo (A 6) (aGo (A 2) 58) ((k.toNat : Nat) : Int) _ = _; rw [show ((k.toNat : Nat) : Int) = k by omega]
              rw [e9]
              unfold tGo
              first | rw [if_pos (by assumption)] | rw [if_neg (by assumption)]
              exact ht9) (by omega) (by omega) (by
              have e9 : tWr (A 6) (aGo (A 2) 58) (k + 1).toNat = tGo (A 6) (aGo (A 2) 58) k tt := by rw [show (k + 1).toNat = k.toNat + 1 by omega, ett]; show tGo (A 6) (aGo (A 2) 58) ((k.toNat : Nat) : Int) _ = _; rw [show ((k.toNat : Nat) : Int) = k by omega]
              rw [e9]
              have q1 := tGo_2 (N := A 6) (g := (aGo (A 2) 58)) (k := k) (t := tt) (by omega)
              have q2 := tGo_1 (N := A 6) (g := (aGo (A 2) 58)) (k := k) (t := tt)
              omega) (by omega)
        · refine zT.bipush dX13_write_51 ?_
          refine zT.goto (tgt := 58) dX13_write_53 (by decide) ?_
          refine zT.callV (M' := mX13_put) (b := b) [zI 116] [] dX13_write_58 kX13_330 rfl rfl (ci := 10) (r := (RX13, TX13, 62)) rfl (zMod.k hb) (C_X13_put hb hm9 ht9 (by omega) (by first | assumption | exact zq_i _ | exact zand_i _ _ | exact zor_i _ _ | exact zN _ | omega) (by first | assumption | exact zq_i _ | exact zand_i _ _ | exact zor_i _ _ | exact zN _ | omega)) (by decide) (k' := 0) (n' := 0) (by omega) (by omega) (by decide) (fun v58 S58_ m58_ h58 => ?_) (fun _ _ _ _ h => h.elim)
          obtain ⟨rfl, eS58, hm9, ht9⟩ := h58
          have eS58 := eS58.symm
          subst eS58
          have c9 : tt.1 ≤ (tPut (tPut (tLw 6 (A 6 ((aGo (A 2) 58) k 0)) tt) 32) 116).1 ∧ (tPut (tPut (tLw 6 (A 6 ((aGo (A 2) 58) k 0)) tt) 32) 116).1 ≤ tt.1 + 8 := by have q9 := c9; rw [tPut_1]; omega
          show zT G _ _ _ _ [] _ _ _ _ _ _
          refine zT.iconst dX13_write_61 ?_
          refine zT.istore_n 2 dX13_write_62 rfl (by decide) (zpre1 rfl (zcI _)) ?_
          show zT G _ _ _ [zR b, zI k, zI 2] _ _ _ _ _ _ _
          refine zT.iload_n 2 dX13_write_63 rfl rfl ?_
          refine zT.iconst dX13_write_64 ?_
          refine zT.ic_ge (tgt := 84) dX13_write_65 (by decide) (by first | assumption | exact zq_i _ | exact zand_i _ _ | exact zor_i _ _ | exact zN _ | omega) (by first | assumption | exact zq_i _ | exact zand_i _ _ | exact zor_i _ _ | exact zN _ | omega) (fun c65 => absurd c65 (by decide)) (fun c65 => ?_)
          refine zT.aload_n 0 dX13_write_68 rfl rfl ?_
          refine zT.aload_n 0 dX13_write_69 rfl rfl ?_
          refine zT.iload_n 1 dX13_write_70 rfl rfl ?_
          refine zT.iload_n 2 dX13_write_71 rfl rfl ?_
          refine zT.callV (M' := mX13_go5) (b := b) [zI k, zI 2] [zR b] dX13_write_72 kX13_280 rfl rfl (ci := 10) (r := (RX13, TX13, 62)) rfl (zMod.k hb) (C_X13_go5 hb (by first | assumption | exact zq_i _ | exact zand_i _ _ | exact zor_i _ _ | exact zN _ | omega) (by first | assumption | exact zq_i _ | exact zand_i _ _ | exact zor_i _ _ | exact zN _ | omega)) (by decide) (k' := 0) (n' := 0) (by omega) (by omega) (by simp only [List.map, zcI, zcJ, zcR, List.sum_cons, List.sum_nil]; decide) (zdk (v := some (zI (m58_ (b + 2) (59 + 5 * k + 2)))) ?_) (fun _ _ _ _ h => h.elim)
          show zT G _ _ _ _ [zI (m58_ (b + 2) (59 + 5 * k + 2)), zR b] _ _ _ _ _ _
          have yg := ym1.row (fun j => (zPw.trw hmN hm9).row j)
          have ge2 := yg.g.2 k 2 (by omega) (by omega) (by omega) (by omega)
          rw [ge2]
          show zT G _ _ _ _ [zI ((aGo (A 2) 58) k 2), zR b] _ _ _ _ _ _
          refine zT.callV (M' := mX13_putNumber) (b := b) [zI ((aGo (A 2) 58) k 2)] [] dX13_write_75 kX13_337 rfl rfl (ci := 10) (r := (RX13, TX13, 62)) rfl (zMod.k hb) (C_X13_putNumber hb hm9 ht9 (by omega) (by first | assumption | exact zq_i _ | exact zand_i _ _ | exact zor_i _ _ | exact zN _ | omega) (by first | assumption | exact zq_i _ | exact zand_i _ _ | exact zor_i _ _ | exact zN _ | omega)) (by decide) (k' := 0) (n' := 0) (by omega) (by omega) (by decide) (fun v75 S75_ m75_ h75 => ?_) (fun _ _ _ _ h => h.elim)
          obtain ⟨rfl, eS75, hm9, ht9⟩ := h75
          have eS75 := eS75.symm
          subst eS75
          have c9 : tt.1 ≤ (tNum (tPut (tPut (tLw 6 (A 6 ((aGo (A 2) 58) k 0)) tt) 32) 116) ((aGo (A 2) 58) k 2)).1 ∧ (tNum (tPut (tPut (tLw 6 (A 6 ((aGo (A 2) 58) k 0)) tt) 32) 116) ((aGo (A 2) 58) k 2)).1 ≤ tt.1 + 12 := by have q9 := c9; have z9 := tNum_1 (t := tPut (tPut (tLw 6 (A 6 ((aGo (A 2) 58) k 0)) tt) 32) 116) (n := (aGo (A 2) 58) k 2); omega
          show zT G _ _ _ _ [] _ _ _ _ _ _
          refine zT.iinc 2 dX13_write_78 rfl (by decide) (zpre1 rfl (zcI _)) ?_
          show zT G _ _ _ [zR b, zI k, zI 3] _ _ _ _ _ _ _
          refine zT.goto (tgt := 63) dX13_write_81 (by decide) ?_
          refine zT.iload_n 2 dX13_write_63 rfl rfl ?_
          refine zT.iconst dX13_write_64 ?_
          refine zT.ic_ge (tgt := 84) dX13_write_65 (by decide) (by first | assumption | exact zq_i _ | exact zand_i _ _ | exact zor_i _ _ | exact zN _ | omega) (by first | assumption | exact zq_i _ | exact zand_i _ _ | exact zor_i _ _ | exact zN _ | omega) (fun c65 => absurd c65 (by decide)) (fun c65 => ?_)
          refine zT.aload_n 0 dX13_write_68 rfl rfl ?_
          refine zT.aload_n 0 dX13_write_69 rfl rfl ?_
          refine zT.iload_n 1 dX13_write_70 rfl rfl ?_
          refine zT.iload_n 2 dX13_write_71 rfl rfl ?_
          refine zT.callV (M' := mX13_go5) (b := b) [zI k, zI 3] [zR b] dX13_write_72 kX13_280 rfl rfl (ci := 10) (r := (RX13, TX13, 62)) rfl (zMod.k hb) (C_X13_go5 hb (by first | assumption | exact zq_i _ | exact zand_i _ _ | exact zor_i _ _ | exact zN _ | omega) (by first | assumption | exact zq_i _ | exact zand_i _ _ | exact zor_i _ _ | exact zN _ | omega)) (by decide) (k' := 0) (n' := 0) (by omega) (by omega) (by simp only [List.map, zcI, zcJ, zcR, List.sum_cons, List.sum_nil]; decide) (zdk (v := some (zI (m75_ (b + 2) (59 + 5 * k + 3)))) ?_) (fun _ _ _ _ h => h.elim)
          show zT G _ _ _ _ [zI (m75_ (b + 2) (59 + 5 * k + 3)), zR b] _ _ _ _ _ _
          have yg := ym1.row (fun j => (zPw.trw hmN hm9).row j)
          have ge3 := yg.g.2 k 3 (by omega) (by omega) (by omega) (by omega)
          rw [ge3]
          show zT G _ _ _ _ [zI ((aGo (A 2) 58) k 3), zR b] _ _ _ _ _ _
          refine zT.callV (M' := mX13_putNumber) (b := b) [zI ((aGo (A 2) 58) k 3)] [] dX13_write_75 kX13_337 rfl rfl (ci := 10) (r := (RX13, TX13, 62)) rfl (zMod.k hb) (C_X13_putNumber hb hm9 ht9 (by omega) (by first | assumption | exact zq_i _ | exact zand_i _ _ | exact zor_i _ _ | exact zN _ | omega) (by first | assumption | exact zq_i _ | exact zand_i _ _ | exact zor_i _ _ | exact zN _ | omega)) (by decide) (k' := 0) (n' := 0) (by omega) (by omega) (by decide) (fun v75 S75_ m75_ h75 => ?_) (fun _ _ _ _ h => h.elim)
          obtain ⟨rfl, eS75, hm9, ht9⟩ := h75
          have eS75 := eS75.symm
          subst eS75
          have c9 : tt.1 ≤ (tNum (tNum (tPut (tPut (tLw 6 (A 6 ((aGo (A 2) 58) k 0)) tt) 32) 116) ((aGo (A 2) 58) k 2)) ((aGo (A 2) 58) k 3)).1 ∧ (tNum (tNum (tPut (tPut (tLw 6 (A 6 ((aGo (A 2) 58) k 0)) tt) 32) 116) ((aGo (A 2) 58) k 2)) ((aGo (A 2) 58) k 3)).1 ≤ tt.1 + 16 := by have q9 := c9; have z9 := tNum_1 (t := tNum (tPut (tPut (tLw 6 (A 6 ((aGo (A 2) 58) k 0)) tt) 32) 116) ((aGo (A 2) 58) k 2)) (n := (aGo (A 2) 58) k 3); omega
          show zT G _ _ _ _ [] _ _ _ _ _ _
          refine zT.iinc 2 dX13_write_78 rfl (by decide) (zpre1 rfl (zcI _)) ?_
          show zT G _ _ _ [zR b, zI k, zI 4] _ _ _ _ _ _ _
          refine zT.goto (tgt := 63) dX13_write_81 (by decide) ?_
          refine zT.iload_n 2 dX13_write_63 rfl rfl ?_
          refine zT.iconst dX13_write_64 ?_
          refine zT.ic_ge (tgt := 84) dX13_write_65 (by decide) (by first | assumption | exact zq_i _ | exact zand_i _ _ | exact zor_i _ _ | exact zN _ | omega) (by first | assumption | exact zq_i _ | exact zand_i _ _ | exact zor_i _ _ | exact zN _ | omega) (fun c65 => absurd c65 (by decide)) (fun c65 => ?_)
          refine zT.aload_n 0 dX13_write_68 rfl rfl ?_
          refine zT.aload_n 0 dX13_write_69 rfl rfl ?_
          refine zT.iload_n 1 dX13_write_70 rfl rfl ?_
          refine zT.iload_n 2 dX13_write_71 rfl rfl ?_
          refine zT.callV (M' := mX13_go5) (b := b) [zI k, zI 4] [zR b] dX13_write_72 kX13_280 rfl rfl (ci := 10) (r := (RX13, TX13, 62)) rfl (zMod.k hb) (C_X13_go5 hb (by first | assumption | exact zq_i _ | exact zand_i _ _ | exact zor_i _ _ | exact zN _ | omega) (by first | assumption | exact zq_i _ | exact zand_i _ _ | exact zor_i _ _ | exact zN _ | omega)) (by decide) (k' := 0) (n' := 0) (by omega) (by omega) (by simp only [List.map, zcI, zcJ, zcR, List.sum_cons, List.sum_nil]; decide) (zdk (v := some (zI (m75_ (b + 2) (59 + 5 * k + 4)))) ?_) (fun _ _ _ _ h => h.elim)
          show zT G _ _ _ _ [zI (m75_ (b + 2) (59 + 5 * k + 4)), zR b] _ _ _ _ _ _
          have yg := ym1.row (fun j => (zPw.trw hmN hm9).row j)
          have ge4 := yg.g.2 k 4 (by omega) (by omega) (by omega) (by omega)
          rw [ge4]
          show zT G _ _ _ _ [zI ((aGo (A 2) 58) k 4), zR b] _ _ _ _ _ _
          refine zT.callV (M' := mX13_putNumber) (b := b) [zI ((aGo (A 2) 58) k 4)] [] dX13_write_75 kX13_337 rfl rfl (ci := 10) (r := (RX13, TX13, 62)) rfl (zMod.k hb) (C_X13_putNumber hb hm9 ht9 (by omega) (by first | assumption | exact zq_i _ | exact zand_i _ _ | exact zor_i _ _ | exact zN _ | omega) (by first | assumption | exact zq_i _ | exact zand_i _ _ | exact zor_i _ _ | exact zN _ | omega)) (by decide) (k' := 0) (n' := 0) (by omega) (by omega) (by decide) (fun v75 S75_ m75_ h75 => ?_) (fun _ _ _ _ h => h.elim)
          obtain ⟨rfl, eS75, hm9, ht9⟩ := h75
          have eS75 := eS75.symm
          subst eS75
          have c9 : tt.1 ≤ (tNum (tNum (tNum (tPut (tPut (tLw 6 (A 6 ((aGo (A 2) 58) k 0)) tt) 32) 116) ((aGo (A 2) 58) k 2)) ((aGo (A 2) 58) k 3)) ((aGo (A 2) 58) k 4)).1 ∧ (tNum (tNum (tNum (tPut (tPut (tLw 6 (A 6 ((aGo (A 2) 58) k 0)) tt) 32) 116) ((aGo (A 2) 58) k 2)) ((aGo (A 2) 58) k 3)) ((aGo (A 2) 58) k 4)).1 ≤ tt.1 + 20 := by have q9 := c9; have z9 := tNum_1 (t := tNum (tNum (tPut (tPut (tLw 6 (A 6 ((aGo (A 2) 58) k 0)) tt) 32) 116) ((aGo (A 2) 58) k 2)) ((aGo (A 2) 58) k 3)) (n := (aGo (A 2) 58) k 4); omega
          show zT G _ _ _ _ [] _ _ _ _ _ _
          refine zT.iinc 2 dX13_write_78 rfl (by decide) (zpre1 rfl (zcI _)) ?_
          show zT G _ _ _ [zR b, zI k, zI 5] _ _ _ _ _ _ _
          refine zT.goto (tgt := 63) dX13_write_81 (by decide) ?_
          refine zT.iload_n 2 dX13_write_63 rfl rfl ?_
          refine zT.iconst dX13_write_64 ?_
          refine zT.ic_ge (tgt := 84) dX13_write_65 (by decide) (by first | assumption | exact zq_i _ | exact zand_i _ _ | exact zor_i _ _ | exact zN _ | omega) (by first | assumption | exact zq_i _ | exact zand_i _ _ | exact zor_i _ _ | exact zN _ | omega) (fun c65 => ?_) (fun c65 => absurd c65 (by decide))
          refine zT.aload_n 0 dX13_write_84 rfl rfl ?_
          refine zT.bipush dX13_write_85 ?_
          refine zT.callV (M' := mX13_put) (b := b) [zI 59] [] dX13_write_87 kX13_330 rfl rfl (ci := 10) (r := (RX13, TX13, 62)) rfl (zMod.k hb) (C_X13_put hb hm9 ht9 (by omega) (by first | assumption | exact zq_i _ | exact zand_i _ _ | exact zor_i _ _ | exact zN _ | omega) (by first | assumption | exact zq_i _ | exact zand_i _ _ | exact zor_i _ _ | exact zN _ | omega)) (by decide) (k' := 0) (n' := 0) (by omega) (by omega) (by decide) (fun v87 S87_ m87_ h87 => ?_) (fun _ _ _ _ h => h.elim)
          obtain ⟨rfl, eS87, hm9, ht9⟩ := h87
          have eS87 := eS87.symm
          subst eS87
          have c9 : tt.1 ≤ (tPut (tNum (tNum (tNum (tPut (tPut (tLw 6 (A 6 ((aGo (A 2) 58) k 0)) tt) 32) 116) ((aGo (A 2) 58) k 2)) ((aGo (A 2) 58) k 3)) ((aGo (A 2) 58) k 4)) 59).1 ∧ (tPut (tNum (tNum (tNum (tPut (tPut (tLw 6 (A 6 ((aGo (A 2) 58) k 0)) tt) 32) 116) ((aGo (A 2) 58) k 2)) ((aGo (A 2) 58) k 3)) ((aGo (A 2) 58) k 4)) 59).1 ≤ tt.1 + 21 := by have q9 := c9; rw [tPut_1]; omega
          show zT G _ _ _ _ [] _ _ _ _ _ _
          refine zT.iinc 1 dX13_write_90 rfl (by decide) (zpre1 rfl (zcR _)) ?_
          show zT G _ _ _ [zR b, zI (k + 1), zI 5] _ _ _ _ _ _ _
          refine zT.goto (tgt := 12) dX13_write_93 (by decide) ?_
          refine zT.loc (V' := [zR b, zI (k + 1), zU]) ?_ ⟨Or.inr rfl, Or.inr rfl, Or.inl rfl, trivial⟩
          exact ih12 _ _ (by exact zPw.trw hmN hm9) (by
              have e9 : tWr (A 6) (aGo (A 2) 58) (k + 1).toNat = tGo (A 6) (aGo (A 2) 58) k tt := by rw [show (k + 1).toNat = k.toNat + 1 by omega, ett]; show tGo (A 6) (aGo (A 2) 58) ((k.toNat : Nat) : Int) _ = _; rw [show ((k.toNat : Nat) : Int) = k by omega]
              rw [e9]
              unfold tGo
              first | rw [if_pos (by assumption)] | rw [if_neg (by assumption)]
              exact ht9) (by omega) (by omega) (by
              have e9 : tWr (A 6) (aGo (A 2) 58) (k + 1).toNat = tGo (A 6) (aGo (A 2) 58) k tt := by rw [show (k + 1).toNat = k.toNat + 1 by omega, ett]; show tGo (A 6) (aGo (A 2) 58) ((k.toNat : Nat) : Int) _ = _; rw [show ((k.toNat : Nat) : Int) = k by omega]
              rw [e9]
              have q1 := tGo_2 (N := A 6) (g := (aGo (A 2) 58)) (k := k) (t := tt) (by omega)
              have q2 := tGo_1 (N := A 6) (g := (aGo (A 2) 58)) (k := k) (t := tt)
              omega) (by omega)
  exact L12 _ _ _ (by rw [em2]; exact fun a j p => zup_ne (by omega)) (by exact ⟨by rw [em2, zup_at]; rfl, fun i a c => by change i < 0 at c; omega⟩) (by first | assumption | exact zq_i _ | exact zand_i _ _ | exact zor_i _ _ | exact zN _ | omega) (by first | assumption | exact zq_i _ | exact zand_i _ _ | exact zor_i _ _ | exact zN _ | omega) (by exact ⟨Int.le_refl _, Int.le_refl _⟩) (Nat.lt_succ_self _)

