/-! PanSlices$Plan: what changes a plan; why (written by gen/m_plan2.py) -/
/-- a go more -/
def zgo (m : zMm) (p s c f a n : Int) : zMm := zup (zup (zup (zup (zup (zup m (p + 1) (m p 305) s) (p + 2) (m p 305) c) (p + 3) (m p 305) f) (p + 4) (m p 305) a) (p + 5) (m p 305) n) p 305 (m p 305 + 1)
theorem C_X4_go {G : zG} {S : zS} {m : zMm} {p s c f a n : Int} (hp : zPlan S p) (h0 : 0 ≤ m p 305) (h1 : m p 305 < 400) (hs : zi s) (hc : zi c) (hf : zi f) (ha : zi a) (hn : zi n) : zC G mX4_go 0 0 0 [zR p, zI s, zI c, zI f, zI a, zI n] S m (zDet (some (zI (m p 305))) S (zgo m p s c f a n)) zNX := by
  refine zC.of [zR p, zI s, zI c, zI f, zI a, zI n] (by decide) rfl (zEn1 (zcR _) (zEn1 (zcI _) (zEn1 (zcI _) (zEn1 (zcI _) (zEn1 (zcI _) (zEn1 (zcI _) (zEn0 (by simp)))))))) rfl ?_
  refine zT.aload_n 0 dX4_go_0 rfl rfl ?_
  refine zT.getF dX4_go_1 fX4_9 rfl (zPlan.k hp) (j := 0) (by decide) rfl (zPlan.f300 hp) ?_
  refine zT.aload_n 0 dX4_go_4 rfl rfl ?_
  refine zT.getI dX4_go_5 fX4_27 rfl (zPlan.k hp) (j := 5) (by decide) rfl (fun z5 => ?_)
  refine zT.iload_n 1 dX4_go_8 rfl rfl ?_
  refine zT.iast dX4_go_9 (zPlan.a300 hp) (by first | assumption | exact zq_i _ | exact zand_i _ _ | exact zor_i _ _ | exact zxor_i _ _ | exact zN _ | omega) (by rw [(zPlan.n300 hp)]; first | assumption | exact zq_i _ | exact zand_i _ _ | exact zor_i _ _ | exact zxor_i _ _ | exact zN _ | omega) (by first | assumption | exact zq_i _ | exact zand_i _ _ | exact zor_i _ _ | exact zxor_i _ _ | exact zN _ | omega) ?_
  obtain ⟨m1, em1⟩ : ∃ z, z = zup m (p + 1) (m p 305) s := ⟨_, rfl⟩
  rw [← em1]
  refine zT.aload_n 0 dX4_go_10 rfl rfl ?_
  refine zT.getF dX4_go_11 fX4_15 rfl (zPlan.k hp) (j := 1) (by decide) rfl (zPlan.f301 hp) ?_
  refine zT.aload_n 0 dX4_go_14 rfl rfl ?_
  refine zT.getI dX4_go_15 fX4_27 rfl (zPlan.k hp) (j := 5) (by decide) rfl (fun z15 => ?_)
  have r15 : m1 p 305 = m p 305 := by rw [em1, zup_ne (by omega)]
  rw [r15] at z15 ⊢
  refine zT.iload_n 2 dX4_go_18 rfl rfl ?_
  refine zT.iast dX4_go_19 (zPlan.a301 hp) (by first | assumption | exact zq_i _ | exact zand_i _ _ | exact zor_i _ _ | exact zxor_i _ _ | exact zN _ | omega) (by rw [(zPlan.n301 hp)]; first | assumption | exact zq_i _ | exact zand_i _ _ | exact zor_i _ _ | exact zxor_i _ _ | exact zN _ | omega) (by first | assumption | exact zq_i _ | exact zand_i _ _ | exact zor_i _ _ | exact zxor_i _ _ | exact zN _ | omega) ?_
  obtain ⟨m2, em2⟩ : ∃ z, z = zup m1 (p + 2) (m p 305) c := ⟨_, rfl⟩
  rw [← em2]
  refine zT.aload_n 0 dX4_go_20 rfl rfl ?_
  refine zT.getF dX4_go_21 fX4_18 rfl (zPlan.k hp) (j := 2) (by decide) rfl (zPlan.f302 hp) ?_
  refine zT.aload_n 0 dX4_go_24 rfl rfl ?_
  refine zT.getI dX4_go_25 fX4_27 rfl (zPlan.k hp) (j := 5) (by decide) rfl (fun z25 => ?_)
  have r25 : m2 p 305 = m p 305 := by rw [em2, zup_ne (by omega), em1, zup_ne (by omega)]
  rw [r25] at z25 ⊢
  refine zT.iload_n 3 dX4_go_28 rfl rfl ?_
  refine zT.iast dX4_go_29 (zPlan.a302 hp) (by first | assumption | exact zq_i _ | exact zand_i _ _ | exact zor_i _ _ | exact zxor_i _ _ | exact zN _ | omega) (by rw [(zPlan.n302 hp)]; first | assumption | exact zq_i _ | exact zand_i _ _ | exact zor_i _ _ | exact zxor_i _ _ | exact zN _ | omega) (by first | assumption | exact zq_i _ | exact zand_i _ _ | exact zor_i _ _ | exact zxor_i _ _ | exact zN _ | omega) ?_
  obtain ⟨m3, em3⟩ : ∃ z, z = zup m2 (p + 3) (m p 305) f := ⟨_, rfl⟩
  rw [← em3]
  refine zT.aload_n 0 dX4_go_30 rfl rfl ?_
  refine zT.getF dX4_go_31 fX4_21 rfl (zPlan.k hp) (j := 3) (by decide) rfl (zPlan.f303 hp) ?_
  refine zT.aload_n 0 dX4_go_34 rfl rfl ?_
  refine zT.getI dX4_go_35 fX4_27 rfl (zPlan.k hp) (j := 5) (by decide) rfl (fun z35 => ?_)
  have r35 : m3 p 305 = m p 305 := by rw [em3, zup_ne (by omega), em2, zup_ne (by omega), em1, zup_ne (by omega)]
  rw [r35] at z35 ⊢
  refine zT.iload 4 dX4_go_38 rfl ?_
  refine zT.iast dX4_go_40 (zPlan.a303 hp) (by first | assumption | exact zq_i _ | exact zand_i _ _ | exact zor_i _ _ | exact zxor_i _ _ | exact zN _ | omega) (by rw [(zPlan.n303 hp)]; first | assumption | exact zq_i _ | exact zand_i _ _ | exact zor_i _ _ | exact zxor_i _ _ | exact zN _ | omega) (by first | assumption | exact zq_i _ | exact zand_i _ _ | exact zor_i _ _ | exact zxor_i _ _ | exact zN _ | omega) ?_
  obtain ⟨m4, em4⟩ : ∃ z, z = zup m3 (p + 4) (m p 305) a := ⟨_, rfl⟩
  rw [← em4]
  refine zT.aload_n 0 dX4_go_41 rfl rfl ?_
  refine zT.getF dX4_go_42 fX4_24 rfl (zPlan.k hp) (j := 4) (by decide) rfl (zPlan.f304 hp) ?_
  refine zT.aload_n 0 dX4_go_45 rfl rfl ?_
  refine zT.getI dX4_go_46 fX4_27 rfl (zPlan.k hp) (j := 5) (by decide) rfl (fun z46 => ?_)
  have r46 : m4 p 305 = m p 305 := by rw [em4, zup_ne (by omega), em3, zup_ne (by omega), em2, zup_ne (by omega), em1, zup_ne (by omega)]
  rw [r46] at z46 ⊢
  refine zT.iload 5 dX4_go_49 rfl ?_
  refine zT.iast dX4_go_51 (zPlan.a304 hp) (by first | assumption | exact zq_i _ | exact zand_i _ _ | exact zor_i _ _ | exact zxor_i _ _ | exact zN _ | omega) (by rw [(zPlan.n304 hp)]; first | assumption | exact zq_i _ | exact zand_i _ _ | exact zor_i _ _ | exact zxor_i _ _ | exact zN _ | omega) (by first | assumption | exact zq_i _ | exact zand_i _ _ | exact zor_i _ _ | exact zxor_i _ _ | exact zN _ | omega) ?_
  obtain ⟨m5, em5⟩ : ∃ z, z = zup m4 (p + 5) (m p 305) n := ⟨_, rfl⟩
  rw [← em5]
  refine zT.aload_n 0 dX4_go_52 rfl rfl ?_
  refine zT.dup dX4_go_53 (zcR _) ?_
  refine zT.getI dX4_go_54 fX4_27 rfl (zPlan.k hp) (j := 5) (by decide) rfl (fun z54 => ?_)
  have r54 : m5 p 305 = m p 305 := by rw [em5, zup_ne (by omega), em4, zup_ne (by omega), em3, zup_ne (by omega), em2, zup_ne (by omega), em1, zup_ne (by omega)]
  rw [r54] at z54 ⊢
  refine zT.iconst dX4_go_57 ?_
  refine zT.iadd dX4_go_58 ?_
  refine zT.putI dX4_go_59 fX4_27 zs_305 rfl (zPlan.k hp) (j := 5) (by decide) rfl (by first | assumption | exact zq_i _ | exact zand_i _ _ | exact zor_i _ _ | exact zxor_i _ _ | exact zN _ | omega) ?_
  obtain ⟨m6, em6⟩ : ∃ z, z = zup m5 p 305 ((m p 305) + 1) := ⟨_, rfl⟩
  rw [← em6]
  refine zT.aload_n 0 dX4_go_62 rfl rfl ?_
  refine zT.getI dX4_go_63 fX4_27 rfl (zPlan.k hp) (j := 5) (by decide) rfl (fun z63 => ?_)
  have r63 : m6 p 305 = (m p 305) + 1 := by rw [em6, zup_at]
  rw [r63] at z63 ⊢
  refine zT.iconst dX4_go_66 ?_
  refine zT.isub dX4_go_67 ?_
  refine zT.iret dX4_go_68 rfl ?_
  exact ⟨by rw [show m p 305 + 1 - 1 = m p 305 by omega], rfl, by unfold zgo; simp only [*]⟩

/-- p is as o -/
def zbe (m : zMm) (p o : Int) : zMm := fun b j => if b = p ∧ j = 305 then m o 305 else if p + 1 ≤ b ∧ b ≤ p + 5 ∧ 0 ≤ j ∧ j < m o 305 then m (o + (b - p)) j else m b j
theorem C_X4_be {G : zG} {S : zS} {m : zMm} {p o : Int} (hp : zPlan S p) (ho : zPlan S o) (hne : p + 6 ≤ o ∨ o + 6 ≤ p) (h0 : 0 ≤ m o 305) (h1 : m o 305 ≤ 400) (hz : zi (m o 305)) : zC G mX4_be 1 0 0 [zR p, zR o] S m (zDet none S (zbe m p o)) zNX := by
  refine zC.of [zR p, zR o] (by decide) rfl (zEn1 (zcR _) (zEn1 (zcR _) (zEn0 (by simp)))) rfl ?_
  refine zT.aload_n 0 dX4_be_0 rfl rfl ?_
  refine zT.aload_n 1 dX4_be_1 rfl rfl ?_
  refine zT.getI dX4_be_2 fX4_27 rfl (zPlan.k ho) (j := 5) (by decide) rfl (fun z2 => ?_)
  refine zT.putI dX4_be_5 fX4_27 zs_305 rfl (zPlan.k hp) (j := 5) (by decide) rfl (by first | assumption | exact zq_i _ | exact zand_i _ _ | exact zor_i _ _ | exact zxor_i _ _ | exact zN _ | omega) ?_
  obtain ⟨m1, em1⟩ : ∃ z, z = zup m p 305 (m o 305) := ⟨_, rfl⟩
  rw [← em1]
  refine zT.aload_n 1 dX4_be_8 rfl rfl ?_
  refine zT.getF dX4_be_9 fX4_9 rfl (zPlan.k ho) (j := 0) (by decide) rfl (zPlan.f300 ho) ?_
  refine zT.iconst dX4_be_12 ?_
  refine zT.aload_n 0 dX4_be_13 rfl rfl ?_
  refine zT.getF dX4_be_14 fX4_9 rfl (zPlan.k hp) (j := 0) (by decide) rfl (zPlan.f300 hp) ?_
  refine zT.iconst dX4_be_17 ?_
  refine zT.aload_n 0 dX4_be_18 rfl rfl ?_
  refine zT.getI dX4_be_19 fX4_27 rfl (zPlan.k hp) (j := 5) (by decide) rfl (fun z19 => ?_)
  have r19 : m1 p 305 = m o 305 := by rw [em1, zup_at]
  rw [r19] at z19 ⊢
  refine zT.acopy dX4_be_22 q869 (zPlan.a300 ho) (zPlan.a300 hp) (Or.inl rfl) (by first | assumption | exact zq_i _ | exact zand_i _ _ | exact zor_i _ _ | exact zxor_i _ _ | exact zN _ | omega) (by first | assumption | exact zq_i _ | exact zand_i _ _ | exact zor_i _ _ | exact zxor_i _ _ | exact zN _ | omega) (by first | assumption | exact zq_i _ | exact zand_i _ _ | exact zor_i _ _ | exact zxor_i _ _ | exact zN _ | omega) (by rw [(zPlan.n300 ho)]; first | assumption | exact zq_i _ | exact zand_i _ _ | exact zor_i _ _ | exact zxor_i _ _ | exact zN _ | omega) (by rw [(zPlan.n300 hp)]; first | assumption | exact zq_i _ | exact zand_i _ _ | exact zor_i _ _ | exact zxor_i _ _ | exact zN _ | omega) (by decide) (by decide) ?_
  obtain ⟨m2, em2⟩ : ∃ z, z = zfl m1 (p + 1) 0 (0 + (m o 305)) (fun j => m1 (o + 1) (0 + (j - 0))) := ⟨_, rfl⟩
  rw [← em2]
  refine zT.aload_n 1 dX4_be_25 rfl rfl ?_
  refine zT.getF dX4_be_26 fX4_15 rfl (zPlan.k ho) (j := 1) (by decide) rfl (zPlan.f301 ho) ?_
  refine zT.iconst dX4_be_29 ?_
  refine zT.aload_n 0 dX4_be_30 rfl rfl ?_
  refine zT.getF dX4_be_31 fX4_15 rfl (zPlan.k hp) (j := 1) (by decide) rfl (zPlan.f301 hp) ?_
  refine zT.iconst dX4_be_34 ?_
  refine zT.aload_n 0 dX4_be_35 rfl rfl ?_
  refine zT.getI dX4_be_36 fX4_27 rfl (zPlan.k hp) (j := 5) (by decide) rfl (fun z36 => ?_)
  have r36 : m2 p 305 = m o 305 := by rw [em2, zfl_ne (by omega), em1, zup_at]
  rw [r36] at z36 ⊢
  refine zT.acopy dX4_be_39 q869 (zPlan.a301 ho) (zPlan.a301 hp) (Or.inl rfl) (by first | assumption | exact zq_i _ | exact zand_i _ _ | exact zor_i _ _ | exact zxor_i _ _ | exact zN _ | omega) (by first | assumption | exact zq_i _ | exact zand_i _ _ | exact zor_i _ _ | exact zxor_i _ _ | exact zN _ | omega) (by first | assumption | exact zq_i _ | exact zand_i _ _ | exact zor_i _ _ | exact zxor_i _ _ | exact zN _ | omega) (by rw [(zPlan.n301 ho)]; first | assumption | exact zq_i _ | exact zand_i _ _ | exact zor_i _ _ | exact zxor_i _ _ | exact zN _ | omega) (by rw [(zPlan.n301 hp)]; first | assumption | exact zq_i _ | exact zand_i _ _ | exact zor_i _ _ | exact zxor_i _ _ | exact zN _ | omega) (by decide) (by decide) ?_
  obtain ⟨m3, em3⟩ : ∃ z, z = zfl m2 (p + 2) 0 (0 + (m o 305)) (fun j => m2 (o + 2) (0 + (j - 0))) := ⟨_, rfl⟩
  rw [← em3]
  refine zT.aload_n 1 dX4_be_42 rfl rfl ?_
  refine zT.getF dX4_be_43 fX4_18 rfl (zPlan.k ho) (j := 2) (by decide) rfl (zPlan.f302 ho) ?_
  refine zT.iconst dX4_be_46 ?_
  refine zT.aload_n 0 dX4_be_47 rfl rfl ?_
  refine zT.getF dX4_be_48 fX4_18 rfl (zPlan.k hp) (j := 2) (by decide) rfl (zPlan.f302 hp) ?_
  refine zT.iconst dX4_be_51 ?_
  refine zT.aload_n 0 dX4_be_52 rfl rfl ?_
  refine zT.getI dX4_be_53 fX4_27 rfl (zPlan.k hp) (j := 5) (by decide) rfl (fun z53 => ?_)
  have r53 : m3 p 305 = m o 305 := by rw [em3, zfl_ne (by omega), em2, zfl_ne (by omega), em1, zup_at]
  rw [r53] at z53 ⊢
  refine zT.acopy dX4_be_56 q869 (zPlan.a302 ho) (zPlan.a302 hp) (Or.inl rfl) (by first | assumption | exact zq_i _ | exact zand_i _ _ | exact zor_i _ _ | exact zxor_i _ _ | exact zN _ | omega) (by first | assumption | exact zq_i _ | exact zand_i _ _ | exact zor_i _ _ | exact zxor_i _ _ | exact zN _ | omega) (by first | assumption | exact zq_i _ | exact zand_i _ _ | exact zor_i _ _ | exact zxor_i _ _ | exact zN _ | omega) (by rw [(zPlan.n302 ho)]; first | assumption | exact zq_i _ | exact zand_i _ _ | exact zor_i _ _ | exact zxor_i _ _ | exact zN _ | omega) (by rw [(zPlan.n302 hp)]; first | assumption | exact zq_i _ | exact zand_i _ _ | exact zor_i _ _ | exact zxor_i _ _ | exact zN _ | omega) (by decide) (by decide) ?_
  obtain ⟨m4, em4⟩ : ∃ z, z = zfl m3 (p + 3) 0 (0 + (m o 305)) (fun j => m3 (o + 3) (0 + (j - 0))) := ⟨_, rfl⟩
  rw [← em4]
  refine zT.aload_n 1 dX4_be_59 rfl rfl ?_
  refine zT.getF dX4_be_60 fX4_21 rfl (zPlan.k ho) (j := 3) (by decide) rfl (zPlan.f303 ho) ?_
  refine zT.iconst dX4_be_63 ?_
  refine zT.aload_n 0 dX4_be_64 rfl rfl ?_
  refine zT.getF dX4_be_65 fX4_21 rfl (zPlan.k hp) (j := 3) (by decide) rfl (zPlan.f303 hp) ?_
  refine zT.iconst dX4_be_68 ?_
  refine zT.aload_n 0 dX4_be_69 rfl rfl ?_
  refine zT.getI dX4_be_70 fX4_27 rfl (zPlan.k hp) (j := 5) (by decide) rfl (fun z70 => ?_)
  have r70 : m4 p 305 = m o 305 := by rw [em4, zfl_ne (by omega), em3, zfl_ne (by omega), em2, zfl_ne (by omega), em1, zup_at]
  rw [r70] at z70 ⊢
  refine zT.acopy dX4_be_73 q869 (zPlan.a303 ho) (zPlan.a303 hp) (Or.inl rfl) (by first | assumption | exact zq_i _ | exact zand_i _ _ | exact zor_i _ _ | exact zxor_i _ _ | exact zN _ | omega) (by first | assumption | exact zq_i _ | exact zand_i _ _ | exact zor_i _ _ | exact zxor_i _ _ | exact zN _ | omega) (by first | assumption | exact zq_i _ | exact zand_i _ _ | exact zor_i _ _ | exact zxor_i _ _ | exact zN _ | omega) (by rw [(zPlan.n303 ho)]; first | assumption | exact zq_i _ | exact zand_i _ _ | exact zor_i _ _ | exact zxor_i _ _ | exact zN _ | omega) (by rw [(zPlan.n303 hp)]; first | assumption | exact zq_i _ | exact zand_i _ _ | exact zor_i _ _ | exact zxor_i _ _ | exact zN _ | omega) (by decide) (by decide) ?_
  obtain ⟨m5, em5⟩ : ∃ z, z = zfl m4 (p + 4) 0 (0 + (m o 305)) (fun j => m4 (o + 4) (0 + (j - 0))) := ⟨_, rfl⟩
  rw [← em5]
  refine zT.aload_n 1 dX4_be_76 rfl rfl ?_
  refine zT.getF dX4_be_77 fX4_24 rfl (zPlan.k ho) (j := 4) (by decide) rfl (zPlan.f304 ho) ?_
  refine zT.iconst dX4_be_80 ?_
  refine zT.aload_n 0 dX4_be_81 rfl rfl ?_
  refine zT.getF dX4_be_82 fX4_24 rfl (zPlan.k hp) (j := 4) (by decide) rfl (zPlan.f304 hp) ?_
  refine zT.iconst dX4_be_85 ?_
  refine zT.aload_n 0 dX4_be_86 rfl rfl ?_
  refine zT.getI dX4_be_87 fX4_27 rfl (zPlan.k hp) (j := 5) (by decide) rfl (fun z87 => ?_)
  have r87 : m5 p 305 = m o 305 := by rw [em5, zfl_ne (by omega), em4, zfl_ne (by omega), em3, zfl_ne (by omega), em2, zfl_ne (by omega), em1, zup_at]
  rw [r87] at z87 ⊢
  refine zT.acopy dX4_be_90 q869 (zPlan.a304 ho) (zPlan.a304 hp) (Or.inl rfl) (by first | assumption | exact zq_i _ | exact zand_i _ _ | exact zor_i _ _ | exact zxor_i _ _ | exact zN _ | omega) (by first | assumption | exact zq_i _ | exact zand_i _ _ | exact zor_i _ _ | exact zxor_i _ _ | exact zN _ | omega) (by first | assumption | exact zq_i _ | exact zand_i _ _ | exact zor_i _ _ | exact zxor_i _ _ | exact zN _ | omega) (by rw [(zPlan.n304 ho)]; first | assumption | exact zq_i _ | exact zand_i _ _ | exact zor_i _ _ | exact zxor_i _ _ | exact zN _ | omega) (by rw [(zPlan.n304 hp)]; first | assumption | exact zq_i _ | exact zand_i _ _ | exact zor_i _ _ | exact zxor_i _ _ | exact zN _ | omega) (by decide) (by decide) ?_
  obtain ⟨m6, em6⟩ : ∃ z, z = zfl m5 (p + 5) 0 (0 + (m o 305)) (fun j => m5 (o + 5) (0 + (j - 0))) := ⟨_, rfl⟩
  rw [← em6]
  refine zT.vret dX4_be_93 rfl ?_
  refine ⟨rfl, rfl, ?_⟩
  funext b j
  unfold zbe
  simp only [em6, em5, em4, em3, em2, em1, zup, zfl]
  by_cases hb : b = p ∧ j = 305
  · rw [if_neg (by omega), if_neg (by omega), if_neg (by omega), if_neg (by omega), if_neg (by omega), if_pos hb, if_pos hb]
  · rw [if_neg hb]
    by_cases hj : p + 1 ≤ b ∧ b ≤ p + 5 ∧ 0 ≤ j ∧ j < m o 305
    · rw [if_pos hj]
      have hcs : b = p + 1 ∨ b = p + 2 ∨ b = p + 3 ∨ b = p + 4 ∨ b = p + 5 := by omega
      have e0 : ∀ k : Int, p + k - p = k := fun k => by omega
      have e1 : (0 : Int) + (j - 0) = j := by omega
      rcases hcs with rfl | rfl | rfl | rfl | rfl <;> simp only [e0, e1] <;> simp (disch := omega) only [if_pos, if_neg, true_and]
    · simp (disch := omega) only [if_neg]

/-- the k-th go is taken out, so far as place i -/
def zdr (m : zMm) (p k i : Int) : zMm := fun b j => if p + 1 ≤ b ∧ b ≤ p + 5 ∧ k ≤ j ∧ j < i then m b (j + 1) else if b = p ∧ j = 305 then m p 305 - 1 else m b j
theorem zdr_n {m : zMm} {p k i : Int} : zdr m p k i p 305 = m p 305 - 1 := by
  unfold zdr
  rw [if_neg (by omega), if_pos ⟨rfl, rfl⟩]
theorem zdr_h {m : zMm} {p k i b j : Int} (hb : p < b) (hj : i ≤ j) : zdr m p k i b j = m b j := by
  unfold zdr
  rw [if_neg (by omega), if_neg (by omega)]
theorem C_X4_drop {G : zG} {S : zS} {m : zMm} {p k : Int} (hp : zPlan S p) (h0 : 0 ≤ k) (h1 : k < m p 305) (h2 : m p 305 ≤ 400) : zC G mX4_drop 0 0 0 [zR p, zI k] S m (zDet none S (zdr m p k (m p 305 - 1))) zNX := by
  refine zC.of [zR p, zI k, zU] (by decide) rfl (zEn1 (zcR _) (zEn1 (zcI _) (zEn0 (by simp)))) rfl ?_
  refine zT.rng hp.a300 (fun zNa => ?_)
  refine zT.rng hp.a301 (fun zNb => ?_)
  refine zT.rng hp.a302 (fun zNc => ?_)
  refine zT.rng hp.a303 (fun zNd => ?_)
  refine zT.rng hp.a304 (fun zNe => ?_)
  refine zT.aload_n 0 dX4_drop_0 rfl rfl ?_
  refine zT.dup dX4_drop_1 (zcR _) ?_
  refine zT.getI dX4_drop_2 fX4_27 rfl (zPlan.k hp) (j := 5) (by decide) rfl (fun z2 => ?_)
  refine zT.iconst dX4_drop_5 ?_
  refine zT.isub dX4_drop_6 ?_
  refine zT.putI dX4_drop_7 fX4_27 zs_305 rfl (zPlan.k hp) (j := 5) (by decide) rfl (by first | assumption | exact zq_i _ | exact zand_i _ _ | exact zor_i _ _ | exact zxor_i _ _ | exact zN _ | omega) ?_
  obtain ⟨m1, em1⟩ : ∃ z, z = zup m p 305 ((m p 305) - 1) := ⟨_, rfl⟩
  rw [← em1]
  refine zT.iload_n 1 dX4_drop_10 rfl rfl ?_
  refine zT.istore_n 2 dX4_drop_11 rfl (by decide) (zpre1 rfl (zcI _)) ?_
  show zT G _ _ _ [zR p, zI k, zI k] _ _ _ _ _ _ _
  have L12 : ∀ (N : Nat) (i : Int), (k ≤ i) → (i ≤ m p 305 - 1) → ((m p 305 - 1 - i).toNat) < N → zT G mX4_drop 0 12 [zR p, zI k, zI i] [] S (zdr m p k i) 0 0 (zDet none S (zdr m p k (m p 305 - 1))) zNX := by
    intro N
    induction N with
    | zero => intro i i0 i1 hN; exact absurd hN (Nat.not_lt_zero _)
    | succ N ih12 =>
      intro i i0 i1 hN
      obtain ⟨m2, em2⟩ : ∃ z, z = zdr m p k i := ⟨_, rfl⟩
      rw [← em2]
      refine zT.iload_n 2 dX4_drop_12 rfl rfl ?_
      refine zT.aload_n 0 dX4_drop_13 rfl rfl ?_
      refine zT.getI dX4_drop_14 fX4_27 rfl (zPlan.k hp) (j := 5) (by decide) rfl (fun z14 => ?_)
      have r14 : m2 p 305 = m p 305 - 1 := by rw [em2, zdr_n]
      rw [r14] at z14 ⊢
      refine zT.ic_ge (tgt := 96) dX4_drop_17 (by decide) (by first | assumption | exact zq_i _ | exact zand_i _ _ | exact zor_i _ _ | exact zxor_i _ _ | exact zN _ | omega) (by first | assumption | exact zq_i _ | exact zand_i _ _ | exact zor_i _ _ | exact zxor_i _ _ | exact zN _ | omega) (fun c17 => ?_) (fun c17 => ?_)
      · refine zT.vret dX4_drop_96 rfl ?_
        exact ⟨rfl, rfl, by rw [em2, show i = m p 305 - 1 by omega]⟩
      · refine zT.aload_n 0 dX4_drop_20 rfl rfl ?_
        refine zT.getF dX4_drop_21 fX4_9 rfl (zPlan.k hp) (j := 0) (by decide) rfl (zPlan.f300 hp) ?_
        refine zT.iload_n 2 dX4_drop_24 rfl rfl ?_
        refine zT.aload_n 0 dX4_drop_25 rfl rfl ?_
        refine zT.getF dX4_drop_26 fX4_9 rfl (zPlan.k hp) (j := 0) (by decide) rfl (zPlan.f300 hp) ?_
        refine zT.iload_n 2 dX4_drop_29 rfl rfl ?_
        refine zT.iconst dX4_drop_30 ?_
        refine zT.iadd dX4_drop_31 ?_
        refine zT.iald dX4_drop_32 (zPlan.a300 hp) (by first | assumption | exact zq_i _ | exact zand_i _ _ | exact zor_i _ _ | exact zxor_i _ _ | exact zN _ | omega) (by rw [(zPlan.n300 hp)]; first | assumption | exact zq_i _ | exact zand_i _ _ | exact zor_i _ _ | exact zxor_i _ _ | exact zN _ | omega) (fun z32 => ?_)
        have r32 : m2 (p + 1) (i + 1) = m (p + 1) (i + 1) := by rw [em2, zdr_h (by omega) (by omega)]
        rw [r32] at z32 ⊢
        refine zT.iast dX4_drop_33 (zPlan.a300 hp) (by first | assumption | exact zq_i _ | exact zand_i _ _ | exact zor_i _ _ | exact zxor_i _ _ | exact zN _ | omega) (by rw [(zPlan.n300 hp)]; first | assumption | exact zq_i _ | exact zand_i _ _ | exact zor_i _ _ | exact zxor_i _ _ | exact zN _ | omega) (by first | assumption | exact zq_i _ | exact zand_i _ _ | exact zor_i _ _ | exact zxor_i _ _ | exact zN _ | omega) ?_
        obtain ⟨m3, em3⟩ : ∃ z, z = zup m2 (p + 1) i (m (p + 1) (i + 1)) := ⟨_, rfl⟩
        rw [← em3]
        refine zT.aload_n 0 dX4_drop_34 rfl rfl ?_
        refine zT.getF dX4_drop_35 fX4_15 rfl (zPlan.k hp) (j := 1) (by decide) rfl (zPlan.f301 hp) ?_
        refine zT.iload_n 2 dX4_drop_38 rfl rfl ?_
        refine zT.aload_n 0 dX4_drop_39 rfl rfl ?_
        refine zT.getF dX4_drop_40 fX4_15 rfl (zPlan.k hp) (j := 1) (by decide) rfl (zPlan.f301 hp) ?_
        refine zT.iload_n 2 dX4_drop_43 rfl rfl ?_
        refine zT.iconst dX4_drop_44 ?_
        refine zT.iadd dX4_drop_45 ?_
        refine zT.iald dX4_drop_46 (zPlan.a301 hp) (by first | assumption | exact zq_i _ | exact zand_i _ _ | exact zor_i _ _ | exact zxor_i _ _ | exact zN _ | omega) (by rw [(zPlan.n301 hp)]; first | assumption | exact zq_i _ | exact zand_i _ _ | exact zor_i _ _ | exact zxor_i _ _ | exact zN _ | omega) (fun z46 => ?_)
        have r46 : m3 (p + 2) (i + 1) = m (p + 2) (i + 1) := by rw [em3, zup_ne (by omega), em2, zdr_h (by omega) (by omega)]
        rw [r46] at z46 ⊢
        refine zT.iast dX4_drop_47 (zPlan.a301 hp) (by first | assumption | exact zq_i _ | exact zand_i _ _ | exact zor_i _ _ | exact zxor_i _ _ | exact zN _ | omega) (by rw [(zPlan.n301 hp)]; first | assumption | exact zq_i _ | exact zand_i _ _ | exact zor_i _ _ | exact zxor_i _ _ | exact zN _ | omega) (by first | assumption | exact zq_i _ | exact zand_i _ _ | exact zor_i _ _ | exact zxor_i _ _ | exact zN _ | omega) ?_
        obtain ⟨m4, em4⟩ : ∃ z, z = zup m3 (p + 2) i (m (p + 2) (i + 1)) := ⟨_, rfl⟩
        rw [← em4]
        refine zT.aload_n 0 dX4_drop_48 rfl rfl ?_
        refine zT.getF dX4_drop_49 fX4_18 rfl (zPlan.k hp) (j := 2) (by decide) rfl (zPlan.f302 hp) ?_
        refine zT.iload_n 2 dX4_drop_52 rfl rfl ?_
        refine zT.aload_n 0 dX4_drop_53 rfl rfl ?_
        refine zT.getF dX4_drop_54 fX4_18 rfl (zPlan.k hp) (j := 2) (by decide) rfl (zPlan.f302 hp) ?_
        refine zT.iload_n 2 dX4_drop_57 rfl rfl ?_
        refine zT.iconst dX4_drop_58 ?_
        refine zT.iadd dX4_drop_59 ?_
        refine zT.iald dX4_drop_60 (zPlan.a302 hp) (by first | assumption | exact zq_i _ | exact zand_i _ _ | exact zor_i _ _ | exact zxor_i _ _ | exact zN _ | omega) (by rw [(zPlan.n302 hp)]; first | assumption | exact zq_i _ | exact zand_i _ _ | exact zor_i _ _ | exact zxor_i _ _ | exact zN _ | omega) (fun z60 => ?_)
        have r60 : m4 (p + 3) (i + 1) = m (p + 3) (i + 1) := by rw [em4, zup_ne (by omega), em3, zup_ne (by omega), em2, zdr_h (by omega) (by omega)]
        rw [r60] at z60 ⊢
        refine zT.iast dX4_drop_61 (zPlan.a302 hp) (by first | assumption | exact zq_i _ | exact zand_i _ _ | exact zor_i _ _ | exact zxor_i _ _ | exact zN _ | omega) (by rw [(zPlan.n302 hp)]; first | assumption | exact zq_i _ | exact zand_i _ _ | exact zor_i _ _ | exact zxor_i _ _ | exact zN _ | omega) (by first | assumption | exact zq_i _ | exact zand_i _ _ | exact zor_i _ _ | exact zxor_i _ _ | exact zN _ | omega) ?_
        obtain ⟨m5, em5⟩ : ∃ z, z = zup m4 (p + 3) i (m (p + 3) (i + 1)) := ⟨_, rfl⟩
        rw [← em5]
        refine zT.aload_n 0 dX4_drop_62 rfl rfl ?_
        refine zT.getF dX4_drop_63 fX4_21 rfl (zPlan.k hp) (j := 3) (by decide) rfl (zPlan.f303 hp) ?_
        refine zT.iload_n 2 dX4_drop_66 rfl rfl ?_
        refine zT.aload_n 0 dX4_drop_67 rfl rfl ?_
        refine zT.getF dX4_drop_68 fX4_21 rfl (zPlan.k hp) (j := 3) (by decide) rfl (zPlan.f303 hp) ?_
        refine zT.iload_n 2 dX4_drop_71 rfl rfl ?_
        refine zT.iconst dX4_drop_72 ?_
        refine zT.iadd dX4_drop_73 ?_
        refine zT.iald dX4_drop_74 (zPlan.a303 hp) (by first | assumption | exact zq_i _ | exact zand_i _ _ | exact zor_i _ _ | exact zxor_i _ _ | exact zN _ | omega) (by rw [(zPlan.n303 hp)]; first | assumption | exact zq_i _ | exact zand_i _ _ | exact zor_i _ _ | exact zxor_i _ _ | exact zN _ | omega) (fun z74 => ?_)
        have r74 : m5 (p + 4) (i + 1) = m (p + 4) (i + 1) := by rw [em5, zup_ne (by omega), em4, zup_ne (by omega), em3, zup_ne (by omega), em2, zdr_h (by omega) (by omega)]
        rw [r74] at z74 ⊢
        refine zT.iast dX4_drop_75 (zPlan.a303 hp) (by first | assumption | exact zq_i _ | exact zand_i _ _ | exact zor_i _ _ | exact zxor_i _ _ | exact zN _ | omega) (by rw [(zPlan.n303 hp)]; first | assumption | exact zq_i _ | exact zand_i _ _ | exact zor_i _ _ | exact zxor_i _ _ | exact zN _ | omega) (by first | assumption | exact zq_i _ | exact zand_i _ _ | exact zor_i _ _ | exact zxor_i _ _ | exact zN _ | omega) ?_
        obtain ⟨m6, em6⟩ : ∃ z, z = zup m5 (p + 4) i (m (p + 4) (i + 1)) := ⟨_, rfl⟩
        rw [← em6]
        refine zT.aload_n 0 dX4_drop_76 rfl rfl ?_
        refine zT.getF dX4_drop_77 fX4_24 rfl (zPlan.k hp) (j := 4) (by decide) rfl (zPlan.f304 hp) ?_
        refine zT.iload_n 2 dX4_drop_80 rfl rfl ?_
        refine zT.aload_n 0 dX4_drop_81 rfl rfl ?_
        refine zT.getF dX4_drop_82 fX4_24 rfl (zPlan.k hp) (j := 4) (by decide) rfl (zPlan.f304 hp) ?_
        refine zT.iload_n 2 dX4_drop_85 rfl rfl ?_
        refine zT.iconst dX4_drop_86 ?_
        refine zT.iadd dX4_drop_87 ?_
        refine zT.iald dX4_drop_88 (zPlan.a304 hp) (by first | assumption | exact zq_i _ | exact zand_i _ _ | exact zor_i _ _ | exact zxor_i _ _ | exact zN _ | omega) (by rw [(zPlan.n304 hp)]; first | assumption | exact zq_i _ | exact zand_i _ _ | exact zor_i _ _ | exact zxor_i _ _ | exact zN _ | omega) (fun z88 => ?_)
        have r88 : m6 (p + 5) (i + 1) = m (p + 5) (i + 1) := by rw [em6, zup_ne (by omega), em5, zup_ne (by omega), em4, zup_ne (by omega), em3, zup_ne (by omega), em2, zdr_h (by omega) (by omega)]
        rw [r88] at z88 ⊢
        refine zT.iast dX4_drop_89 (zPlan.a304 hp) (by first | assumption | exact zq_i _ | exact zand_i _ _ | exact zor_i _ _ | exact zxor_i _ _ | exact zN _ | omega) (by rw [(zPlan.n304 hp)]; first | assumption | exact zq_i _ | exact zand_i _ _ | exact zor_i _ _ | exact zxor_i _ _ | exact zN _ | omega) (by first | assumption | exact zq_i _ | exact zand_i _ _ | exact zor_i _ _ | exact zxor_i _ _ | exact zN _ | omega) ?_
        obtain ⟨m7, em7⟩ : ∃ z, z = zup m6 (p + 5) i (m (p + 5) (i + 1)) := ⟨_, rfl⟩
        rw [← em7]
        refine zT.iinc 2 dX4_drop_90 rfl (by decide) (zpre1 rfl (zcI _)) ?_
        show zT G _ _ _ [zR p, zI k, zI (i + 1)] _ _ _ _ _ _ _
        refine zT.goto (tgt := 12) dX4_drop_93 (by decide) ?_
        have eb12 : m7 = zdr m p k (i + 1) := by
          funext b_ j_
          simp only [em7, em6, em5, em4, em3, em2, zup, zdr]
          repeat' split
          all_goals first | omega | rfl | (congr 2 <;> omega) | (congr 1 <;> omega)
        refine zT.meq eb12 ?_
        exact ih12 _ (by first | assumption | exact zq_i _ | exact zand_i _ _ | exact zor_i _ _ | exact zxor_i _ _ | exact zN _ | omega) (by first | assumption | exact zq_i _ | exact zand_i _ _ | exact zor_i _ _ | exact zxor_i _ _ | exact zN _ | omega) (by omega)
  have eb12 : m1 = zdr m p k k := by
    funext b j
    unfold zdr
    rw [if_neg (by omega), em1]
    rfl
  refine zT.meq eb12 ?_
  exact L12 _ _ (by first | assumption | exact zq_i _ | exact zand_i _ _ | exact zor_i _ _ | exact zxor_i _ _ | exact zN _ | omega) (by first | assumption | exact zq_i _ | exact zand_i _ _ | exact zor_i _ _ | exact zxor_i _ _ | exact zN _ | omega) (Nat.lt_succ_self _)

