/-! PanSlices: keep; what changes the plan (written by gen/m_keep.py) -/
theorem zbe_pr {S : zS} {m : zMm} {p o n : Int} {g : zGo} (hp : zPlan S p) (ho : zPR S m o n g) (hne : p + 6 ≤ o ∨ o + 6 ≤ p) : zPR S (zbe m p o) p n g := by
  obtain ⟨h1, h2, h3⟩ := ho
  refine ⟨hp, ?_, fun k k0 k1 => ?_⟩
  · unfold zbe
    rw [if_pos ⟨rfl, rfl⟩]
    exact h2
  · have key : ∀ c, 1 ≤ c → c ≤ 5 → zbe m p o (p + c) k = m (o + c) k := fun c c0 c1 => by
      unfold zbe
      rw [if_neg (by omega), if_pos ⟨by omega, by omega, by omega, by omega⟩]
      congr 1
      omega
    rw [key 1 (by omega) (by omega), key 2 (by omega) (by omega), key 3 (by omega) (by omega), key 4 (by omega) (by omega), key 5 (by omega) (by omega)]
    exact h3 k k0 k1
theorem zbe_ne {m : zMm} {p o b j : Int} (h : b < p ∨ p + 6 ≤ b) : zbe m p o b j = m b j := by
  unfold zbe
  rw [if_neg (by omega), if_neg (by omega)]
section
variable {G : zG} {M : zM} {d pc : Nat} {V st : List Value} {S : zS} {mm : zMm} {k n : Nat} {Q : zQt} {X : zXt}
theorem zT.wfX (kk : 0 ≤ zx S → zT G M d pc V st S mm k n Q X) : zT G M d pc V st S mm k n Q X := by
  intro p e s m args below meth c H locs cells slots K N ls F hR hW hlo hc hs hV
  exact kk (by have h := hR.1; omega) p e s m args below meth c H locs cells slots K N ls F hR hW hlo hc hs hV
end
theorem zarE_P : zarE 111 = "PanSlices$Plan" := rfl
theorem rUn_el {G : zG} {S : zS} {m : zMm} {x u : Int} {U : Int → Int} (h : rUn S m x u U) {i : Int} (i0 : 0 ≤ i) (i1 : i < 8) (s : State) (H : Heap) (a1 : zOK G) (a2 : (gs G).WarmedH s.vm) (a4 : zRep G S m H) : zEl (zarE 111) s H (m (x + 29) i) := by
  rcases h.2.1 i i0 i1 with e | ⟨e, e2⟩
  · exact Or.inl (by omega)
  · exact zEl.obj a1 a2 a4 (ci := 3) (r := (RX4, TX4, 6)) e2.k rfl (Or.inl rfl)
theorem zPan.kk {S : zS} {x : Int} (h : zPan S x) {k : Int} (h0 : 0 ≤ k) (h1 : k < 54) : zk S (x + k) ≠ 0 := by
  have key : ∀ i : Fin 54, ∃ t ∈ zPan_L, t.2.1 = (i.val : Int) := by decide +kernel
  obtain ⟨t, t1, t2⟩ := key ⟨k.toNat, by omega⟩
  have q := h.kd zPan_K t1
  rw [t2] at q
  have e : ((k.toNat : Nat) : Int) = k := by omega
  simp only [e] at q
  exact q
theorem C_X1_keep {G : zG}  {S : zS} {m : zMm} {x : Int} {A : zMm} (hR : rel S m x A) : zC G mX1_keep 3 6 2006 [zR x] S m (fun v S2 m2 => v = none ∧ zGr S S2 ∧ rel S2 m2 x (uSnap A) ∧ zOut x m m2) zNX := by
  have hpl := hR.pl
  have hpv := hR.vpl
  have hPl := hpl.pl hpv
  have hPl0 := hPl.1
  have hPl1 := hPl.2.1
  have hgn := hpl.2.1
  have hun := hR.un
  have hu0 := hun.1
  have huv := hR.vun.1
  have hwd := hR.wd.1
  have kx : zk S x ≠ 0 := by rw [hR.sh.k]; omega
  have k29 : zk S (x + 29) ≠ 0 := by rw [hR.sh.a16]; omega
  have k14 : zk S (x + 14) ≠ 0 := by rw [(zPan.o8 hR.sh).k]; omega
  have nn : ∀ q, 0 ≤ q → q < 8 → 0 ≤ m (x + 29) q → zPlan S (m (x + 29) q) ∧ x + 91 ≤ m (x + 29) q := fun q q0 q1 q2 => (hun.2.1 q q0 q1).elim (fun e => absurd q2 (by omega)) (fun e => ⟨e.2, e.1⟩)
  refine zC.of [zR x, zU] (by decide) rfl (zEn1 (zcR _) (zEn0 (by simp))) rfl ?_
  have L49 : ∀ (N : Nat) (p : Int) (SA : zS) (mA : zMm) (t : Int) (d : Int), (zGr S SA) → (zPlan SA p) → (x + 91 ≤ p) → (0 ≤ p) → (∀ a j, (a < x + 91 ∨ zk S a ≠ 0) → mA a j = m a j) → (0 ≤ t ∧ t < 8) → (d = 0 ∨ (d = 1 ∧ t = 7)) → (A 0 1022 = t + d) → (∀ q, 0 ≤ q → q < 8 → q ≠ t → m (x + 29) (q + d) ≠ p) → (∀ i, 0 ≤ i → i < 2 → m (x + 52) i ≠ p) → 0 < N → zT G mX1_keep 3 49 [zR x, zU] [zR p] SA mA 0 0 (fun v S2 m2 => v = none ∧ zGr S S2 ∧ rel S2 m2 x (uSnap A) ∧ zOut x m m2) zNX := by
    intro N
    induction N with
    | zero => intro p SA mA t d hg hq hp hp0 hm1 ht hd hu hn hi hN; exact absurd hN (Nat.not_lt_zero _)
    | succ N ih49 =>
      intro p SA mA t d hg hq hp hp0 hm1 ht hd hu hn hi hN
      refine zT.astore_n 1 dX1_keep_49 rfl (by decide) (zpre1 rfl (zcR _)) ?_
      show zT G _ _ _ [zR x, zR p] _ _ _ _ _ _ _
      refine zT.aload_n 0 dX1_keep_50 rfl rfl ?_
      refine zT.getI dX1_keep_51 fX1_215 rfl (zPan.k (hR.sh.gr hg)) (j := 17) (by decide) rfl (fun z51 => ?_)
      have r51 : mA x 17 = m x 17 := by rw [hm1 _ _ (Or.inl (by omega))]
      rw [r51] at z51 ⊢
      refine zT.bipush dX1_keep_54 ?_
      refine zT.ic_ne (tgt := 84) dX1_keep_56 (by decide) (by first | assumption | exact zq_i _ | exact zand_i _ _ | exact zor_i _ _ | exact zxor_i _ _ | exact zN _ | omega) (by first | assumption | exact zq_i _ | exact zand_i _ _ | exact zor_i _ _ | exact zxor_i _ _ | exact zN _ | omega) (fun c56 => ?_) (fun c56 => ?_)
      · have hO89 : zPR SA mA (x + 14) (A 2 58) (aGo (A 2) 58) := hpl.fr hg (fun a h1 h2 j => by
          rw [hm1 _ _ (by first | exact Or.inl (by omega) | exact Or.inr (by assumption))])
        have hO1 := hO89.2.1
        refine zT.aload_n 1 dX1_keep_84 rfl rfl ?_
        refine zT.aload_n 0 dX1_keep_85 rfl rfl ?_
        refine zT.getF dX1_keep_86 fX1_73 rfl (zPan.k (hR.sh.gr hg)) (j := 8) (by decide) rfl (zPan.f8 (hR.sh.gr hg)) ?_
        refine zT.callV (M' := mX4_be) (b := p) [zR (x + 14)] [] dX1_keep_89 kX1_273 rfl rfl (ci := 3) (r := (RX4, TX4, 6)) rfl (zPlan.k hq) (C_X4_be hq (zPan.o8 (hR.sh.gr hg)) (by omega) (by omega) (by omega) (by omega)) (by decide) (k' := 0) (n' := 0) (by omega) (by omega) (by decide) (zdk (v := none) ?_) (fun _ _ _ _ h => h.elim)
        show zT G _ _ _ _ [] _ _ _ _ _ _
        obtain ⟨m1, em1⟩ : ∃ z, z = zbe mA p (x + 14) := ⟨_, rfl⟩
        rw [← em1]
        refine zT.aload_n 0 dX1_keep_92 rfl rfl ?_
        refine zT.getF dX1_keep_93 fX1_103 rfl (zPan.k (hR.sh.gr hg)) (j := 16) (by decide) rfl (zPan.f16 (hR.sh.gr hg)) ?_
        refine zT.aload_n 0 dX1_keep_96 rfl rfl ?_
        refine zT.getI dX1_keep_97 fX1_215 rfl (zPan.k (hR.sh.gr hg)) (j := 17) (by decide) rfl (fun z97 => ?_)
        have r97 : m1 x 17 = m x 17 := by rw [em1, zbe_ne (by omega), hm1 _ _ (Or.inl (by omega))]
        rw [r97] at z97 ⊢
        refine zT.aload_n 1 dX1_keep_100 rfl rfl ?_
        refine zT.aast dX1_keep_101 (by rw [(zPan.a16 (hR.sh.gr hg))]; decide) (by first | assumption | exact zq_i _ | exact zand_i _ _ | exact zor_i _ _ | exact zxor_i _ _ | exact zN _ | omega) (by rw [(zPan.n16 (hR.sh.gr hg))]; first | assumption | exact zq_i _ | exact zand_i _ _ | exact zor_i _ _ | exact zxor_i _ _ | exact zN _ | omega) (Or.inr ⟨hq.k, (rfl : zcl[3]? = some (RX4, TX4, 6)), by rw [(zPan.a16 (hR.sh.gr hg))]; exact Or.inl rfl⟩) ?_
        obtain ⟨m2, em2⟩ : ∃ z, z = zup m1 (x + 29) (m x 17) p := ⟨_, rfl⟩
        rw [← em2]
        refine zT.aload_n 0 dX1_keep_102 rfl rfl ?_
        refine zT.dup dX1_keep_103 (zcR _) ?_
        refine zT.getI dX1_keep_104 fX1_215 rfl (zPan.k (hR.sh.gr hg)) (j := 17) (by decide) rfl (fun z104 => ?_)
        have r104 : m2 x 17 = m x 17 := by rw [em2, zup_ne (by omega), em1, zbe_ne (by omega), hm1 _ _ (Or.inl (by omega))]
        rw [r104] at z104 ⊢
        refine zT.iconst dX1_keep_107 ?_
        refine zT.iadd dX1_keep_108 ?_
        refine zT.putI dX1_keep_109 fX1_215 zs_17 rfl (zPan.k (hR.sh.gr hg)) (j := 17) (by decide) rfl (by first | assumption | exact zq_i _ | exact zand_i _ _ | exact zor_i _ _ | exact zxor_i _ _ | exact zN _ | omega) ?_
        obtain ⟨m3, em3⟩ : ∃ z, z = zup m2 x 17 ((m x 17) + 1) := ⟨_, rfl⟩
        rw [← em3]
        refine zT.vret dX1_keep_112 rfl ?_
        have hpp : zPR SA m3 p (A 2 58) (aGo (A 2) 58) := (zbe_pr hq hO89 (by omega)).fr zGr.rf (fun a a0 a1 j => by rw [em3, zup_ne (by omega), em2, zup_ne (by omega), em1])
        refine ⟨rfl, hg, hR.keep (p := p) (t := t) (d := d) hg hp0 hp hpp ?_ ?_ ht hd hu ?_ ?_ hn hi, ?_⟩
        · intro k j k0 k1 hne
          rw [em3, zup_ne (by omega), em2, zup_ne (by omega), em1, zbe_ne (by omega), hm1 _ _ (by first | exact Or.inl (by omega) | exact Or.inr (by assumption))]
        · intro a a0 ha hap j
          rw [em3, zup_ne (by omega), em2, zup_ne (by omega), em1, zbe_ne (by omega), hm1 _ _ (by first | exact Or.inl (by omega) | exact Or.inr (by assumption))]
        · rw [em3, zup_at]
          omega
        · intro q q0 q1
          by_cases e : q = t
          · rw [if_pos e, em3, zup_ne (by omega), em2, show q = m x 17 by omega, zup_at]
          · rw [if_neg e, em3, zup_ne (by omega), em2, zup_ne (by omega), em1, zbe_ne (by omega), hm1 _ _ (Or.inl (by omega))]
            congr 1
            omega
        · intro a a0 a1 j
          rw [em3, zup_ne (by omega), em2, zup_ne (by omega), em1, zbe_ne (by omega), hm1 _ _ (by first | exact Or.inl (by omega) | exact Or.inr (by assumption))]
      · refine zT.aload_n 0 dX1_keep_59 rfl rfl ?_
        refine zT.getF dX1_keep_60 fX1_103 rfl (zPan.k (hR.sh.gr hg)) (j := 16) (by decide) rfl (zPan.f16 (hR.sh.gr hg)) ?_
        refine zT.iconst dX1_keep_63 ?_
        refine zT.aload_n 0 dX1_keep_64 rfl rfl ?_
        refine zT.getF dX1_keep_65 fX1_103 rfl (zPan.k (hR.sh.gr hg)) (j := 16) (by decide) rfl (zPan.f16 (hR.sh.gr hg)) ?_
        refine zT.iconst dX1_keep_68 ?_
        refine zT.bipush dX1_keep_69 ?_
        refine zT.acopy dX1_keep_71 q862 (zPan.a16 (hR.sh.gr hg)) (zPan.a16 (hR.sh.gr hg)) (Or.inr ⟨by decide, fun i i0 i1 s H a1 a2 a3 a4 => by
          rw [hm1 _ _ (Or.inl (by omega))]
          rcases hun.2.1 i (by omega) (by omega) with e | ⟨e, e2⟩
          · exact Or.inl (by omega)
          · exact zEl.obj a1 a2 a4 (ci := 3) (r := (RX4, TX4, 6)) (e2.gr hg).k rfl (Or.inl rfl)⟩) (by first | assumption | exact zq_i _ | exact zand_i _ _ | exact zor_i _ _ | exact zxor_i _ _ | exact zN _ | omega) (by first | assumption | exact zq_i _ | exact zand_i _ _ | exact zor_i _ _ | exact zxor_i _ _ | exact zN _ | omega) (by first | assumption | exact zq_i _ | exact zand_i _ _ | exact zor_i _ _ | exact zxor_i _ _ | exact zN _ | omega) (by rw [(zPan.n16 (hR.sh.gr hg))]; first | assumption | exact zq_i _ | exact zand_i _ _ | exact zor_i _ _ | exact zxor_i _ _ | exact zN _ | omega) (by rw [(zPan.n16 (hR.sh.gr hg))]; first | assumption | exact zq_i _ | exact zand_i _ _ | exact zor_i _ _ | exact zxor_i _ _ | exact zN _ | omega) (by decide) (by decide) ?_
        obtain ⟨m4, em4⟩ : ∃ z, z = zfl mA (x + 29) 0 (0 + 7) (fun j => mA (x + 29) (1 + (j - 0))) := ⟨_, rfl⟩
        rw [← em4]
        refine zT.aload_n 0 dX1_keep_74 rfl rfl ?_
        refine zT.dup dX1_keep_75 (zcR _) ?_
        refine zT.getI dX1_keep_76 fX1_215 rfl (zPan.k (hR.sh.gr hg)) (j := 17) (by decide) rfl (fun z76 => ?_)
        have r76 : m4 x 17 = m x 17 := by rw [em4, zfl_ne (by omega), hm1 _ _ (Or.inl (by omega))]
        rw [r76] at z76 ⊢
        refine zT.iconst dX1_keep_79 ?_
        refine zT.isub dX1_keep_80 ?_
        refine zT.putI dX1_keep_81 fX1_215 zs_17 rfl (zPan.k (hR.sh.gr hg)) (j := 17) (by decide) rfl (by first | assumption | exact zq_i _ | exact zand_i _ _ | exact zor_i _ _ | exact zxor_i _ _ | exact zN _ | omega) ?_
        obtain ⟨m5, em5⟩ : ∃ z, z = zup m4 x 17 ((m x 17) - 1) := ⟨_, rfl⟩
        rw [← em5]
        have hO89 : zPR SA m5 (x + 14) (A 2 58) (aGo (A 2) 58) := hpl.fr hg (fun a h1 h2 j => by
          rw [em5, zup_ne (by omega), em4, zfl_ne (by omega), hm1 _ _ (by first | exact Or.inl (by omega) | exact Or.inr (by assumption))])
        have hO1 := hO89.2.1
        refine zT.aload_n 1 dX1_keep_84 rfl rfl ?_
        refine zT.aload_n 0 dX1_keep_85 rfl rfl ?_
        refine zT.getF dX1_keep_86 fX1_73 rfl (zPan.k (hR.sh.gr hg)) (j := 8) (by decide) rfl (zPan.f8 (hR.sh.gr hg)) ?_
        refine zT.callV (M' := mX4_be) (b := p) [zR (x + 14)] [] dX1_keep_89 kX1_273 rfl rfl (ci := 3) (r := (RX4, TX4, 6)) rfl (zPlan.k hq) (C_X4_be hq (zPan.o8 (hR.sh.gr hg)) (by omega) (by omega) (by omega) (by omega)) (by decide) (k' := 0) (n' := 0) (by omega) (by omega) (by decide) (zdk (v := none) ?_) (fun _ _ _ _ h => h.elim)
        show zT G _ _ _ _ [] _ _ _ _ _ _
        obtain ⟨m6, em6⟩ : ∃ z, z = zbe m5 p (x + 14) := ⟨_, rfl⟩
        rw [← em6]
        refine zT.aload_n 0 dX1_keep_92 rfl rfl ?_
        refine zT.getF dX1_keep_93 fX1_103 rfl (zPan.k (hR.sh.gr hg)) (j := 16) (by decide) rfl (zPan.f16 (hR.sh.gr hg)) ?_
        refine zT.aload_n 0 dX1_keep_96 rfl rfl ?_
        refine zT.getI dX1_keep_97 fX1_215 rfl (zPan.k (hR.sh.gr hg)) (j := 17) (by decide) rfl (fun z97 => ?_)
        have r97 : m6 x 17 = (m x 17) - 1 := by rw [em6, zbe_ne (by omega), em5, zup_at]
        rw [r97] at z97 ⊢
        refine zT.aload_n 1 dX1_keep_100 rfl rfl ?_
        refine zT.aast dX1_keep_101 (by rw [(zPan.a16 (hR.sh.gr hg))]; decide) (by first | assumption | exact zq_i _ | exact zand_i _ _ | exact zor_i _ _ | exact zxor_i _ _ | exact zN _ | omega) (by rw [(zPan.n16 (hR.sh.gr hg))]; first | assumption | exact zq_i _ | exact zand_i _ _ | exact zor_i _ _ | exact zxor_i _ _ | exact zN _ | omega) (Or.inr ⟨hq.k, (rfl : zcl[3]? = some (RX4, TX4, 6)), by rw [(zPan.a16 (hR.sh.gr hg))]; exact Or.inl rfl⟩) ?_
        obtain ⟨m7, em7⟩ : ∃ z, z = zup m6 (x + 29) ((m x 17) - 1) p := ⟨_, rfl⟩
        rw [← em7]
        refine zT.aload_n 0 dX1_keep_102 rfl rfl ?_
        refine zT.dup dX1_keep_103 (zcR _) ?_
        refine zT.getI dX1_keep_104 fX1_215 rfl (zPan.k (hR.sh.gr hg)) (j := 17) (by decide) rfl (fun z104 => ?_)
        have r104 : m7 x 17 = (m x 17) - 1 := by rw [em7, zup_ne (by omega), em6, zbe_ne (by omega), em5, zup_at]
        rw [r104] at z104 ⊢
        refine zT.iconst dX1_keep_107 ?_
        refine zT.iadd dX1_keep_108 ?_
        refine zT.putI dX1_keep_109 fX1_215 zs_17 rfl (zPan.k (hR.sh.gr hg)) (j := 17) (by decide) rfl (by first | assumption | exact zq_i _ | exact zand_i _ _ | exact zor_i _ _ | exact zxor_i _ _ | exact zN _ | omega) ?_
        obtain ⟨m8, em8⟩ : ∃ z, z = zup m7 x 17 (((m x 17) - 1) + 1) := ⟨_, rfl⟩
        rw [← em8]
        refine zT.vret dX1_keep_112 rfl ?_
        have hpp : zPR SA m8 p (A 2 58) (aGo (A 2) 58) := (zbe_pr hq hO89 (by omega)).fr zGr.rf (fun a a0 a1 j => by rw [em8, zup_ne (by omega), em7, zup_ne (by omega), em6])
        refine ⟨rfl, hg, hR.keep (p := p) (t := t) (d := d) hg hp0 hp hpp ?_ ?_ ht hd hu ?_ ?_ hn hi, ?_⟩
        · intro k j k0 k1 hne
          rw [em8, zup_ne (by omega), em7, zup_ne (by omega), em6, zbe_ne (by omega), em5, zup_ne (by omega), em4, zfl_ne (by omega), hm1 _ _ (by first | exact Or.inl (by omega) | exact Or.inr (by assumption))]
        · intro a a0 ha hap j
          rw [em8, zup_ne (by omega), em7, zup_ne (by omega), em6, zbe_ne (by omega), em5, zup_ne (by omega), em4, zfl_ne (by omega), hm1 _ _ (by first | exact Or.inl (by omega) | exact Or.inr (by assumption))]
        · rw [em8, zup_at]
          omega
        · intro q q0 q1
          by_cases e : q = t
          · rw [if_pos e, em8, zup_ne (by omega), em7, show q = m x 17 - 1 by omega, zup_at]
          · rw [if_neg e, em8, zup_ne (by omega), em7, zup_ne (by omega), em6, zbe_ne (by omega), em5, zup_ne (by omega), em4, zfl_at (by omega) (by omega)]
            show mA (x + 29) (1 + (q - 0)) = m (x + 29) (q + d)
            rw [hm1 _ _ (Or.inl (by omega))]
            congr 1
            omega
        · intro a a0 a1 j
          rw [em8, zup_ne (by omega), em7, zup_ne (by omega), em6, zbe_ne (by omega), em5, zup_ne (by omega), em4, zfl_ne (by omega), hm1 _ _ (by first | exact Or.inl (by omega) | exact Or.inr (by assumption))]
  refine zT.wfS (fun w0 => ?_)
  have hx9 := (w0 x kx).1
  refine zT.aload_n 0 dX1_keep_0 rfl rfl ?_
  refine zT.getI dX1_keep_1 fX1_215 rfl (zPan.k hR.sh) (j := 17) (by decide) rfl (fun z1 => ?_)
  refine zT.bipush dX1_keep_4 ?_
  refine zT.ic_ne (tgt := 18) dX1_keep_6 (by decide) (by first | assumption | exact zq_i _ | exact zand_i _ _ | exact zor_i _ _ | exact zxor_i _ _ | exact zN _ | omega) (by first | assumption | exact zq_i _ | exact zand_i _ _ | exact zor_i _ _ | exact zxor_i _ _ | exact zN _ | omega) (fun c6 => ?_) (fun c6 => ?_)
  · refine zT.aload_n 0 dX1_keep_18 rfl rfl ?_
    refine zT.getF dX1_keep_19 fX1_103 rfl (zPan.k hR.sh) (j := 16) (by decide) rfl (zPan.f16 hR.sh) ?_
    refine zT.aload_n 0 dX1_keep_22 rfl rfl ?_
    refine zT.getI dX1_keep_23 fX1_215 rfl (zPan.k hR.sh) (j := 17) (by decide) rfl (fun z23 => ?_)
    refine zT.aald dX1_keep_26 (by rw [(zPan.a16 hR.sh)]; decide) (by first | assumption | exact zq_i _ | exact zand_i _ _ | exact zor_i _ _ | exact zxor_i _ _ | exact zN _ | omega) (by rw [(zPan.n16 hR.sh)]; first | assumption | exact zq_i _ | exact zand_i _ _ | exact zor_i _ _ | exact zxor_i _ _ | exact zN _ | omega) ?_
    refine zT.ifnonnull (tgt := 40) dX1_keep_27 (by decide) (fun c27 => ?_) (fun c27 => ?_)
    · refine zT.aload_n 0 dX1_keep_40 rfl rfl ?_
      refine zT.getF dX1_keep_41 fX1_103 rfl (zPan.k hR.sh) (j := 16) (by decide) rfl (zPan.f16 hR.sh) ?_
      refine zT.aload_n 0 dX1_keep_44 rfl rfl ?_
      refine zT.getI dX1_keep_45 fX1_215 rfl (zPan.k hR.sh) (j := 17) (by decide) rfl (fun z45 => ?_)
      refine zT.aald dX1_keep_48 (by rw [(zPan.a16 hR.sh)]; decide) (by first | assumption | exact zq_i _ | exact zand_i _ _ | exact zor_i _ _ | exact zxor_i _ _ | exact zN _ | omega) (by rw [(zPan.n16 hR.sh)]; first | assumption | exact zq_i _ | exact zand_i _ _ | exact zor_i _ _ | exact zxor_i _ _ | exact zN _ | omega) ?_
      exact zT.room (L49 _ (m (x + 29) (m x 17)) S m (m x 17) 0 (by exact zGr.rf) (by exact (nn (m x 17) (by omega) (by omega) (by omega)).1) (by exact (nn (m x 17) (by omega) (by omega) (by omega)).2) (by have := (nn (m x 17) (by omega) (by omega) (by omega)).2; have := hx9; omega) (by exact fun _ _ _ => rfl) (by first | assumption | exact zq_i _ | exact zand_i _ _ | exact zor_i _ _ | exact zxor_i _ _ | exact zN _ | omega) (by exact Or.inl rfl) (by first | assumption | exact zq_i _ | exact zand_i _ _ | exact zor_i _ _ | exact zxor_i _ _ | exact zN _ | omega) (by
          exact fun q q0 q1 q2 => by
            rw [Int.add_zero]
            rcases Int.lt_or_gt_of_ne q2 with z | z
            · have := hun.2.2.2 q (m x 17) q0 z (by omega)
              omega
            · have := hun.2.2.2 (m x 17) q (by omega) z q1
              omega) (by
          exact fun i i0 i1 => by
            have := hR.im.2.2 (m x 17) i (by omega) (by omega) i0 i1
            have := (nn (m x 17) (by omega) (by omega) (by omega)).2
            have := hx9
            omega) (Nat.lt_succ_self _)) (by omega) (by omega)
    · refine zT.wfS (fun w30 => ?_)
      refine zT.wfX (fun u30 => ?_)
      refine zT.new (ci := 3) (r := (RX4, TX4, 6)) dX1_keep_30 rfl q326 q327 q112 (k' := 5) (n' := 2000) (by omega) (by omega) ?_
      obtain ⟨p30, ep30⟩ : ∃ z, z = zx S := ⟨_, rfl⟩
      rw [← ep30]
      obtain ⟨S9, eS9⟩ : ∃ z, z = zal S 4 0 := ⟨_, rfl⟩
      rw [← eS9]
      have gS9 : zGr S S9 := by rw [eS9]; exact zGr.al (zfr0 w30)
      have kS9 : zk S9 p30 = 4 := by rw [eS9, zk_al, ep30, if_pos rfl]
      have xS9 : zx S9 = p30 + 1 := by rw [eS9, zx_al, ep30]
      have zS9 : zk S p30 = 0 := by rw [ep30]; exact zfr0 w30
      obtain ⟨m10, em10⟩ : ∃ z, z = znw m 4 p30 := ⟨_, rfl⟩
      rw [← em10]
      refine zT.dup dX1_keep_33 (zcR _) ?_
      refine zT.callIN (M' := mX4_init) (b := p30) [] [zR p30] dX1_keep_34 kX1_72 rfl rfl (by omega) (C_X4_init kS9 xS9 (by omega)) (by decide) (k' := 0) (n' := 0) (by omega) (by omega) (by simp only [List.map, zcI, zcJ, zcR, List.sum_cons, List.sum_nil]; decide) (fun v34 S34_ m34_ h34 => ?_) (fun _ _ _ _ h => h.elim)
      obtain ⟨rfl, x34, hq34, gx34, f34⟩ := h34
      have gn34 : zGr S S34_ := zGx.gr gS9 zS9 gx34
      show zT G _ _ _ _ [zR p30] _ _ _ _ _ _
      refine zT.goto (tgt := 49) dX1_keep_37 (by decide) ?_
      exact zT.room (L49 _ p30 S34_ m34_ (m x 17) 0 (by exact gn34) (by exact hq34) (by omega) (by omega) (by
          exact fun a j ha => by
            have q9 : a < p30 := by
              rcases ha with ha | ha
              · omega
              · have := w30 a ha
                omega
            rw [f34 _ (by omega) _, em10, znw_ne (by omega)]) (by first | assumption | exact zq_i _ | exact zand_i _ _ | exact zor_i _ _ | exact zxor_i _ _ | exact zN _ | omega) (by exact Or.inl rfl) (by first | assumption | exact zq_i _ | exact zand_i _ _ | exact zor_i _ _ | exact zxor_i _ _ | exact zN _ | omega) (by
          exact fun q q0 q1 q2 => by
            rw [Int.add_zero]
            intro e
            rcases hun.2.1 q q0 q1 with z | ⟨z, z2⟩
            · omega
            · have := w30 (m (x + 29) q) (by rw [z2.k]; omega)
              omega) (by
          exact fun i i0 i1 e => by
            rcases hR.im.1 i i0 i1 with z | z
            · omega
            · have := w30 (m (x + 52) i) (by rw [z.2.2.1.1.k]; omega)
              omega) (Nat.lt_succ_self _)) (by omega) (by omega)
  · refine zT.aload_n 0 dX1_keep_9 rfl rfl ?_
    refine zT.getF dX1_keep_10 fX1_103 rfl (zPan.k hR.sh) (j := 16) (by decide) rfl (zPan.f16 hR.sh) ?_
    refine zT.iconst dX1_keep_13 ?_
    refine zT.aald dX1_keep_14 (by rw [(zPan.a16 hR.sh)]; decide) (by first | assumption | exact zq_i _ | exact zand_i _ _ | exact zor_i _ _ | exact zxor_i _ _ | exact zN _ | omega) (by rw [(zPan.n16 hR.sh)]; first | assumption | exact zq_i _ | exact zand_i _ _ | exact zor_i _ _ | exact zxor_i _ _ | exact zN _ | omega) ?_
    refine zT.goto (tgt := 49) dX1_keep_15 (by decide) ?_
    exact zT.room (L49 _ (m (x + 29) 0) S m 7 1 (by exact zGr.rf) (by exact (nn 0 (by omega) (by omega) (by have := hR.un.2.2.1 0 (by omega) (by omega); have := this.1; omega)).1) (by exact (nn 0 (by omega) (by omega) (by have := hR.un.2.2.1 0 (by omega) (by omega); have := this.1; omega)).2) (by have := (nn 0 (by omega) (by omega) (by have := hR.un.2.2.1 0 (by omega) (by omega); have := this.1; omega)).2; have := hx9; omega) (by exact fun _ _ _ => rfl) (by first | assumption | exact zq_i _ | exact zand_i _ _ | exact zor_i _ _ | exact zxor_i _ _ | exact zN _ | omega) (by exact Or.inr ⟨rfl, rfl⟩) (by first | assumption | exact zq_i _ | exact zand_i _ _ | exact zor_i _ _ | exact zxor_i _ _ | exact zN _ | omega) (by
        exact fun q q0 q1 q2 => by
          have := hun.2.2.2 0 (q + 1) (by omega) (by omega) (by omega)
          have := (nn 0 (by omega) (by omega) (by have := hR.un.2.2.1 0 (by omega) (by omega); have := this.1; omega)).2
          have := hx9
          omega) (by
        exact fun i i0 i1 => by
          have := hR.im.2.2 0 i (by omega) (by omega) i0 i1
          have := (nn 0 (by omega) (by omega) (by have := hR.un.2.2.1 0 (by omega) (by omega); have := this.1; omega)).2
          have := hx9
          omega) (Nat.lt_succ_self _)) (by omega) (by omega)

