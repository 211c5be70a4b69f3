/-! Plan.<init>, Kitchen.<init> (written by gen/m_new.py) -/
theorem zPlan.mk {S : zS} {p : Int} (h0 : zShF S p (0, 0, 4, 0)) (h1 : zShF S p (2, 0, 300, 1)) (h2 : zShF S p (0, 1, 101, 0)) (h3 : zShF S p (1, 1, 400, 0)) (h4 : zShF S p (2, 0, 301, 2)) (h5 : zShF S p (0, 2, 101, 0)) (h6 : zShF S p (1, 2, 400, 0)) (h7 : zShF S p (2, 0, 302, 3)) (h8 : zShF S p (0, 3, 101, 0)) (h9 : zShF S p (1, 3, 400, 0)) (h10 : zShF S p (2, 0, 303, 4)) (h11 : zShF S p (0, 4, 101, 0)) (h12 : zShF S p (1, 4, 400, 0)) (h13 : zShF S p (2, 0, 304, 5)) (h14 : zShF S p (0, 5, 101, 0)) (h15 : zShF S p (1, 5, 400, 0)) : zPlan S p := by
  intro t ht
  simp only [zPlan_L, List.mem_cons, List.not_mem_nil, or_false] at ht
  rcases ht with rfl | rfl | rfl | rfl | rfl | rfl | rfl | rfl | rfl | rfl | rfl | rfl | rfl | rfl | rfl | rfl
  · exact h0
  · exact h1
  · exact h2
  · exact h3
  · exact h4
  · exact h5
  · exact h6
  · exact h7
  · exact h8
  · exact h9
  · exact h10
  · exact h11
  · exact h12
  · exact h13
  · exact h14
  · exact h15
theorem zKit.mk {S : zS} {p : Int} (h0 : zShF S p (0, 0, 3, 0)) (h1 : zShF S p (2, 0, 200, 1)) (h2 : zShF S p (0, 1, 102, 0)) (h3 : zShF S p (1, 1, 8, 0)) (h4 : zShF S p (2, 0, 201, 2)) (h5 : zShF S p (0, 2, 102, 0)) (h6 : zShF S p (1, 2, 8, 0)) (h7 : zShF S p (2, 0, 202, 3)) (h8 : zShF S p (0, 3, 101, 0)) (h9 : zShF S p (1, 3, 16, 0)) (h10 : zShF S p (2, 0, 203, 4)) (h11 : zShF S p (0, 4, 101, 0)) (h12 : zShF S p (1, 4, 8, 0)) (h13 : zShF S p (2, 0, 204, 5)) (h14 : zShF S p (0, 5, 101, 0)) (h15 : zShF S p (1, 5, 8, 0)) (h16 : zShF S p (2, 0, 205, 6)) (h17 : zShF S p (0, 6, 101, 0)) (h18 : zShF S p (1, 6, 5, 0)) (h19 : zShF S p (2, 0, 206, 7)) (h20 : zShF S p (0, 7, 101, 0)) (h21 : zShF S p (1, 7, 5, 0)) (h22 : zShF S p (2, 0, 207, 8)) (h23 : zShF S p (0, 8, 104, 0)) (h24 : zShF S p (1, 8, 8, 0)) : zKit S p := by
  intro t ht
  simp only [zKit_L, List.mem_cons, List.not_mem_nil, or_false] at ht
  rcases ht with rfl | rfl | rfl | rfl | rfl | rfl | rfl | rfl | rfl | rfl | rfl | rfl | rfl | rfl | rfl | rfl | rfl | rfl | rfl | rfl | rfl | rfl | rfl | rfl | rfl
  · exact h0
  · exact h1
  · exact h2
  · exact h3
  · exact h4
  · exact h5
  · exact h6
  · exact h7
  · exact h8
  · exact h9
  · exact h10
  · exact h11
  · exact h12
  · exact h13
  · exact h14
  · exact h15
  · exact h16
  · exact h17
  · exact h18
  · exact h19
  · exact h20
  · exact h21
  · exact h22
  · exact h23
  · exact h24
theorem C_X4_init {G : zG} {S : zS} {m : zMm} {p : Int} (kS : zk S p = 4) (xS : zx S = p + 1) (hp0 : 0 ≤ p) : zC G mX4_init 1 5 2000 [zR p] S m (fun v S2 m2 => v = none ∧ zx S2 = p + 6 ∧ zPlan S2 p ∧ zGx p S S2 ∧ ∀ a, a ≤ p → ∀ j, m2 a j = m a j) zNX := by
  refine zC.of [zR p] (by decide) rfl (zEn1 (zcR _) (zEn0 (by simp))) rfl ?_
  refine zT.aload_n 0 dX4_init_0 rfl rfl ?_
  refine zT.objInit dX4_init_1 q331 q143 q144 (by omega) (by decide) (by decide) ?_
  refine zT.aload_n 0 dX4_init_4 rfl rfl ?_
  refine zT.sipush dX4_init_5 ?_
  refine zT.wfS (fun w8 => ?_)
  refine zT.newa (κ := 101) dX4_init_8 rfl (by decide) q324 (by first | assumption | exact zq_i _ | exact zand_i _ _ | exact zor_i _ _ | exact zxor_i _ _ | exact zN _ | omega) (by first | assumption | exact zq_i _ | exact zand_i _ _ | exact zor_i _ _ | exact zxor_i _ _ | exact zN _ | omega) (k' := 4) (n' := 1600) (by omega) (by omega) ?_
  rw [xS]
  obtain ⟨S1, eS1⟩ : ∃ z, z = zal S 101 400 := ⟨_, rfl⟩
  rw [← eS1]
  have gS1 : zGx p S S1 := by rw [eS1]; exact zGx.al w8
  have xS1 : zx S1 = p + 2 := by rw [eS1, zx_al, xS]; omega
  have kS1 : zk S1 p = 4 := gS1.k kS (by decide)
  have aS1 : ∀ i, zf S1 p i = zf S p i := fun i => by rw [eS1, zf_al, xS, if_neg (by omega)]
  have nS1 : zk S1 (p + 1) = 101 := by rw [eS1, zk_al, xS, if_pos rfl]
  have lS1 : zn S1 (p + 1) = 400 := by rw [eS1, zn_al, xS, if_pos rfl]
  obtain ⟨m2, em2⟩ : ∃ z, z = znw m 101 (p + 1) := ⟨_, rfl⟩
  rw [← em2]
  have fm2 : ∀ a, a < (p + 1) → ∀ j, m2 a j = m a j := fun a ha j => by rw [em2]; exact znw_ne (Int.ne_of_lt ha)
  refine zT.putFR dX4_init_10 fX4_9 fX4_9_f rfl rfl rfl kS1 (j := 0) (by decide) rfl ?_
  obtain ⟨S3, eS3⟩ : ∃ z, z = zsf S1 p 300 (p + 1) := ⟨_, rfl⟩
  rw [← eS3]
  have gS3 : zGx p S1 S3 := by rw [eS3]; exact zGx.sf
  have xS3 : zx S3 = p + 2 := by rw [eS3, zx_sf, xS1]
  have kS3 : zk S3 p = 4 := gS3.k kS1 (by decide)
  have aS3 : ∀ i, i ≠ 300 → zf S3 p i = zf S1 p i := fun i hi => by rw [eS3, zf_sf, if_neg (fun q => hi q.2)]
  refine zT.aload_n 0 dX4_init_13 rfl rfl ?_
  refine zT.sipush dX4_init_14 ?_
  refine zT.wfS (fun w17 => ?_)
  refine zT.newa (κ := 101) dX4_init_17 rfl (by decide) q324 (by first | assumption | exact zq_i _ | exact zand_i _ _ | exact zor_i _ _ | exact zxor_i _ _ | exact zN _ | omega) (by first | assumption | exact zq_i _ | exact zand_i _ _ | exact zor_i _ _ | exact zxor_i _ _ | exact zN _ | omega) (k' := 3) (n' := 1200) (by omega) (by omega) ?_
  rw [xS3]
  obtain ⟨S4, eS4⟩ : ∃ z, z = zal S3 101 400 := ⟨_, rfl⟩
  rw [← eS4]
  have gS4 : zGx p S3 S4 := by rw [eS4]; exact zGx.al w17
  have xS4 : zx S4 = p + 3 := by rw [eS4, zx_al, xS3]; omega
  have kS4 : zk S4 p = 4 := gS4.k kS3 (by decide)
  have aS4 : ∀ i, zf S4 p i = zf S3 p i := fun i => by rw [eS4, zf_al, xS3, if_neg (by omega)]
  have nS4 : zk S4 (p + 2) = 101 := by rw [eS4, zk_al, xS3, if_pos rfl]
  have lS4 : zn S4 (p + 2) = 400 := by rw [eS4, zn_al, xS3, if_pos rfl]
  obtain ⟨m5, em5⟩ : ∃ z, z = znw m2 101 (p + 2) := ⟨_, rfl⟩
  rw [← em5]
  have fm5 : ∀ a, a < (p + 2) → ∀ j, m5 a j = m2 a j := fun a ha j => by rw [em5]; exact znw_ne (Int.ne_of_lt ha)
  refine zT.putFR dX4_init_19 fX4_15 fX4_15_f rfl rfl rfl kS4 (j := 1) (by decide) rfl ?_
  obtain ⟨S6, eS6⟩ : ∃ z, z = zsf S4 p 301 (p + 2) := ⟨_, rfl⟩
  rw [← eS6]
  have gS6 : zGx p S4 S6 := by rw [eS6]; exact zGx.sf
  have xS6 : zx S6 = p + 3 := by rw [eS6, zx_sf, xS4]
  have kS6 : zk S6 p = 4 := gS6.k kS4 (by decide)
  have aS6 : ∀ i, i ≠ 301 → zf S6 p i = zf S4 p i := fun i hi => by rw [eS6, zf_sf, if_neg (fun q => hi q.2)]
  refine zT.aload_n 0 dX4_init_22 rfl rfl ?_
  refine zT.sipush dX4_init_23 ?_
  refine zT.wfS (fun w26 => ?_)
  refine zT.newa (κ := 101) dX4_init_26 rfl (by decide) q324 (by first | assumption | exact zq_i _ | exact zand_i _ _ | exact zor_i _ _ | exact zxor_i _ _ | exact zN _ | omega) (by first | assumption | exact zq_i _ | exact zand_i _ _ | exact zor_i _ _ | exact zxor_i _ _ | exact zN _ | omega) (k' := 2) (n' := 800) (by omega) (by omega) ?_
  rw [xS6]
  obtain ⟨S7, eS7⟩ : ∃ z, z = zal S6 101 400 := ⟨_, rfl⟩
  rw [← eS7]
  have gS7 : zGx p S6 S7 := by rw [eS7]; exact zGx.al w26
  have xS7 : zx S7 = p + 4 := by rw [eS7, zx_al, xS6]; omega
  have kS7 : zk S7 p = 4 := gS7.k kS6 (by decide)
  have aS7 : ∀ i, zf S7 p i = zf S6 p i := fun i => by rw [eS7, zf_al, xS6, if_neg (by omega)]
  have nS7 : zk S7 (p + 3) = 101 := by rw [eS7, zk_al, xS6, if_pos rfl]
  have lS7 : zn S7 (p + 3) = 400 := by rw [eS7, zn_al, xS6, if_pos rfl]
  obtain ⟨m8, em8⟩ : ∃ z, z = znw m5 101 (p + 3) := ⟨_, rfl⟩
  rw [← em8]
  have fm8 : ∀ a, a < (p + 3) → ∀ j, m8 a j = m5 a j := fun a ha j => by rw [em8]; exact znw_ne (Int.ne_of_lt ha)
  refine zT.putFR dX4_init_28 fX4_18 fX4_18_f rfl rfl rfl kS7 (j := 2) (by decide) rfl ?_
  obtain ⟨S9, eS9⟩ : ∃ z, z = zsf S7 p 302 (p + 3) := ⟨_, rfl⟩
  rw [← eS9]
  have gS9 : zGx p S7 S9 := by rw [eS9]; exact zGx.sf
  have xS9 : zx S9 = p + 4 := by rw [eS9, zx_sf, xS7]
  have kS9 : zk S9 p = 4 := gS9.k kS7 (by decide)
  have aS9 : ∀ i, i ≠ 302 → zf S9 p i = zf S7 p i := fun i hi => by rw [eS9, zf_sf, if_neg (fun q => hi q.2)]
  refine zT.aload_n 0 dX4_init_31 rfl rfl ?_
  refine zT.sipush dX4_init_32 ?_
  refine zT.wfS (fun w35 => ?_)
  refine zT.newa (κ := 101) dX4_init_35 rfl (by decide) q324 (by first | assumption | exact zq_i _ | exact zand_i _ _ | exact zor_i _ _ | exact zxor_i _ _ | exact zN _ | omega) (by first | assumption | exact zq_i _ | exact zand_i _ _ | exact zor_i _ _ | exact zxor_i _ _ | exact zN _ | omega) (k' := 1) (n' := 400) (by omega) (by omega) ?_
  rw [xS9]
  obtain ⟨S10, eS10⟩ : ∃ z, z = zal S9 101 400 := ⟨_, rfl⟩
  rw [← eS10]
  have gS10 : zGx p S9 S10 := by rw [eS10]; exact zGx.al w35
  have xS10 : zx S10 = p + 5 := by rw [eS10, zx_al, xS9]; omega
  have kS10 : zk S10 p = 4 := gS10.k kS9 (by decide)
  have aS10 : ∀ i, zf S10 p i = zf S9 p i := fun i => by rw [eS10, zf_al, xS9, if_neg (by omega)]
  have nS10 : zk S10 (p + 4) = 101 := by rw [eS10, zk_al, xS9, if_pos rfl]
  have lS10 : zn S10 (p + 4) = 400 := by rw [eS10, zn_al, xS9, if_pos rfl]
  obtain ⟨m11, em11⟩ : ∃ z, z = znw m8 101 (p + 4) := ⟨_, rfl⟩
  rw [← em11]
  have fm11 : ∀ a, a < (p + 4) → ∀ j, m11 a j = m8 a j := fun a ha j => by rw [em11]; exact znw_ne (Int.ne_of_lt ha)
  refine zT.putFR dX4_init_37 fX4_21 fX4_21_f rfl rfl rfl kS10 (j := 3) (by decide) rfl ?_
  obtain ⟨S12, eS12⟩ : ∃ z, z = zsf S10 p 303 (p + 4) := ⟨_, rfl⟩
  rw [← eS12]
  have gS12 : zGx p S10 S12 := by rw [eS12]; exact zGx.sf
  have xS12 : zx S12 = p + 5 := by rw [eS12, zx_sf, xS10]
  have kS12 : zk S12 p = 4 := gS12.k kS10 (by decide)
  have aS12 : ∀ i, i ≠ 303 → zf S12 p i = zf S10 p i := fun i hi => by rw [eS12, zf_sf, if_neg (fun q => hi q.2)]
  refine zT.aload_n 0 dX4_init_40 rfl rfl ?_
  refine zT.sipush dX4_init_41 ?_
  refine zT.wfS (fun w44 => ?_)
  refine zT.newa (κ := 101) dX4_init_44 rfl (by decide) q324 (by first | assumption | exact zq_i _ | exact zand_i _ _ | exact zor_i _ _ | exact zxor_i _ _ | exact zN _ | omega) (by first | assumption | exact zq_i _ | exact zand_i _ _ | exact zor_i _ _ | exact zxor_i _ _ | exact zN _ | omega) (k' := 0) (n' := 0) (by omega) (by omega) ?_
  rw [xS12]
  obtain ⟨S13, eS13⟩ : ∃ z, z = zal S12 101 400 := ⟨_, rfl⟩
  rw [← eS13]
  have gS13 : zGx p S12 S13 := by rw [eS13]; exact zGx.al w44
  have xS13 : zx S13 = p + 6 := by rw [eS13, zx_al, xS12]; omega
  have kS13 : zk S13 p = 4 := gS13.k kS12 (by decide)
  have aS13 : ∀ i, zf S13 p i = zf S12 p i := fun i => by rw [eS13, zf_al, xS12, if_neg (by omega)]
  have nS13 : zk S13 (p + 5) = 101 := by rw [eS13, zk_al, xS12, if_pos rfl]
  have lS13 : zn S13 (p + 5) = 400 := by rw [eS13, zn_al, xS12, if_pos rfl]
  obtain ⟨m14, em14⟩ : ∃ z, z = znw m11 101 (p + 5) := ⟨_, rfl⟩
  rw [← em14]
  have fm14 : ∀ a, a < (p + 5) → ∀ j, m14 a j = m11 a j := fun a ha j => by rw [em14]; exact znw_ne (Int.ne_of_lt ha)
  refine zT.putFR dX4_init_46 fX4_24 fX4_24_f rfl rfl rfl kS13 (j := 4) (by decide) rfl ?_
  obtain ⟨S15, eS15⟩ : ∃ z, z = zsf S13 p 304 (p + 5) := ⟨_, rfl⟩
  rw [← eS15]
  have gS15 : zGx p S13 S15 := by rw [eS15]; exact zGx.sf
  have xS15 : zx S15 = p + 6 := by rw [eS15, zx_sf, xS13]
  have kS15 : zk S15 p = 4 := gS15.k kS13 (by decide)
  have aS15 : ∀ i, i ≠ 304 → zf S15 p i = zf S13 p i := fun i hi => by rw [eS15, zf_sf, if_neg (fun q => hi q.2)]
  have GS15 : zGx p S15 S15 := zGx.rf
  have GS13 : zGx p S13 S15 := gS15.tr GS15
  have GS12 : zGx p S12 S15 := gS13.tr GS13
  have GS10 : zGx p S10 S15 := gS12.tr GS12
  have GS9 : zGx p S9 S15 := gS10.tr GS10
  have GS7 : zGx p S7 S15 := gS9.tr GS9
  have GS6 : zGx p S6 S15 := gS7.tr GS7
  have GS4 : zGx p S4 S15 := gS6.tr GS6
  have GS3 : zGx p S3 S15 := gS4.tr GS4
  have GS1 : zGx p S1 S15 := gS3.tr GS3
  have GS : zGx p S S15 := gS1.tr GS1
  have qk0 : zk S15 (p + 1) = 101 := GS1.k nS1 (by decide)
  have ql0 : zn S15 (p + 1) = 400 := GS1.n nS1 (by decide) lS1
  have qk1 : zk S15 (p + 2) = 101 := GS4.k nS4 (by decide)
  have ql1 : zn S15 (p + 2) = 400 := GS4.n nS4 (by decide) lS4
  have qk2 : zk S15 (p + 3) = 101 := GS7.k nS7 (by decide)
  have ql2 : zn S15 (p + 3) = 400 := GS7.n nS7 (by decide) lS7
  have qk3 : zk S15 (p + 4) = 101 := GS10.k nS10 (by decide)
  have ql3 : zn S15 (p + 4) = 400 := GS10.n nS10 (by decide) lS10
  have qk4 : zk S15 (p + 5) = 101 := GS13.k nS13 (by decide)
  have ql4 : zn S15 (p + 5) = 400 := GS13.n nS13 (by decide) lS13
  have qf300 : zf S15 p 300 = p + 1 := by rw [aS15 _ (by decide), aS13 _, aS12 _ (by decide), aS10 _, aS9 _ (by decide), aS7 _, aS6 _ (by decide), aS4 _, eS3, zf_sf, if_pos ⟨rfl, rfl⟩]
  have qf301 : zf S15 p 301 = p + 2 := by rw [aS15 _ (by decide), aS13 _, aS12 _ (by decide), aS10 _, aS9 _ (by decide), aS7 _, eS6, zf_sf, if_pos ⟨rfl, rfl⟩]
  have qf302 : zf S15 p 302 = p + 3 := by rw [aS15 _ (by decide), aS13 _, aS12 _ (by decide), aS10 _, eS9, zf_sf, if_pos ⟨rfl, rfl⟩]
  have qf303 : zf S15 p 303 = p + 4 := by rw [aS15 _ (by decide), aS13 _, eS12, zf_sf, if_pos ⟨rfl, rfl⟩]
  have qf304 : zf S15 p 304 = p + 5 := by rw [eS15, zf_sf, if_pos ⟨rfl, rfl⟩]
  refine zT.vret dX4_init_49 rfl ?_
  refine ⟨rfl, xS15, zPlan.mk (by unfold zShF; simp only [Int.add_zero]; exact kS15) (by unfold zShF; simp only [Int.add_zero]; exact qf300) qk0 ql0 (by unfold zShF; simp only [Int.add_zero]; exact qf301) qk1 ql1 (by unfold zShF; simp only [Int.add_zero]; exact qf302) qk2 ql2 (by unfold zShF; simp only [Int.add_zero]; exact qf303) qk3 ql3 (by unfold zShF; simp only [Int.add_zero]; exact qf304) qk4 ql4, GS, fun a ha j => ?_⟩
  have e9 : ∀ j, m14 a j = m a j := fun j => by
    rw [fm14 a (Int.lt_of_le_of_lt ha (Int.lt_add_of_pos_right p (by decide))) j, fm11 a (Int.lt_of_le_of_lt ha (Int.lt_add_of_pos_right p (by decide))) j, fm8 a (Int.lt_of_le_of_lt ha (Int.lt_add_of_pos_right p (by decide))) j, fm5 a (Int.lt_of_le_of_lt ha (Int.lt_add_of_pos_right p (by decide))) j, fm2 a (Int.lt_of_le_of_lt ha (Int.lt_add_of_pos_right p (by decide))) j]
  exact e9 j

