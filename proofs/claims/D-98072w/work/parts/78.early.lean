/-! earlier goes: keep once more, the class (written by gen/m_early.py) -/
theorem zPlan.kk {S : zS} {p : Int} (h : zPlan S p) {a : Int} (h0 : p ≤ a) (h1 : a < p + 6) : zk S a ≠ 0 := by
  rcases (by omega : a = p ∨ a = p + 1 ∨ a = p + 2 ∨ a = p + 3 ∨ a = p + 4 ∨ a = p + 5) with q | q | q | q | q | q <;> rw [q]
  · rw [h.k]; decide
  · rw [h.a300]; decide
  · rw [h.a301]; decide
  · rw [h.a302]; decide
  · rw [h.a303]; decide
  · rw [h.a304]; decide
/-- a plan that is kept already, or a new one -/
def zKo (S : zS) (m : zMm) (x p : Int) : Prop := (∃ q, 0 ≤ q ∧ q < 8 ∧ m (x + 29) q = p) ∨ zk S p = 0
theorem zKo.ne {S : zS} {m : zMm} {x p r : Int} (h : zKo S m x p) (hr : zPlan S r) (hrq : ∀ q, 0 ≤ q → q < 8 → m (x + 29) q ≠ r) : p ≠ r := by
  rcases h with ⟨q, q0, q1, e⟩ | e
  · exact fun z => hrq q q0 q1 (e.trans z)
  · exact fun z => by
      have k := hr.k
      rw [← z, e] at k
      exact absurd k (by decide)
theorem C_X1_keepF {G : zG}  {S : zS} {m : zMm} {x : Int} {A : zMm} (hR : rel S m x A) : zC G mX1_keep 3 6 2006 [zR x] S m (fun v S2 m2 => v = none ∧ zGr S S2 ∧ rel S2 m2 x (uSnap A) ∧ zOut x m m2 ∧ ∀ r, zPlan S r → x + 91 ≤ r → (∀ q, 0 ≤ q → q < 8 → m (x + 29) q ≠ r) → ∀ a, r ≤ a → a < r + 6 → ∀ j, m2 a j = m a j) zNX := by
  have hpl := hR.pl
  have hpv := hR.vpl
  have hPl := hpl.pl hpv
  have hPl0 := hPl.1
  have hPl1 := hPl.2.1
  have hgn := hpl.2.1
  have hun := hR.un
  have hu0 := hun.1
  have huv := hR.vun.1
  have hwd := hR.wd.1
  have kx : zk S x ≠ 0 := by rw [hR.sh.k]; omega
  have k29 : zk S (x + 29) ≠ 0 := by rw [hR.sh.a16]; omega
  have k14 : zk S (x + 14) ≠ 0 := by rw [(zPan.o8 hR.sh).k]; omega
  have nn : ∀ q, 0 ≤ q → q < 8 → 0 ≤ m (x + 29) q → zPlan S (m (x + 29) q) ∧ x + 91 ≤ m (x + 29) q := fun q q0 q1 q2 => (hun.2.1 q q0 q1).elim (fun e => absurd q2 (by omega)) (fun e => ⟨e.2, e.1⟩)
  refine zC.of [zR x, zU] (by decide) rfl (zEn1 (zcR _) (zEn0 (by simp))) rfl ?_
  have L49 : ∀ (N : Nat) (p : Int) (SA : zS) (mA : zMm) (t : Int) (d : Int), (zGr S SA) → (zPlan SA p) → (x + 91 ≤ p) → (0 ≤ p) → (∀ a j, (a < x + 91 ∨ zk S a ≠ 0) → mA a j = m a j) → (0 ≤ t ∧ t < 8) → (d = 0 ∨ (d = 1 ∧ t = 7)) → (A 0 1022 = t + d) → (∀ q, 0 ≤ q → q < 8 → q ≠ t → m (x + 29) (q + d) ≠ p) → (∀ i, 0 ≤ i → i < 2 → m (x + 52) i ≠ p) → (zKo S m x p) → 0 < N → zT G mX1_keep 3 49 [zR x, zU] [zR p] SA mA 0 0 (fun v S2 m2 => v = none ∧ zGr S S2 ∧ rel S2 m2 x (uSnap A) ∧ zOut x m m2 ∧ ∀ r, zPlan S r → x + 91 ≤ r → (∀ q, 0 ≤ q → q < 8 → m (x + 29) q ≠ r) → ∀ a, r ≤ a → a < r + 6 → ∀ j, m2 a j = m a j) zNX := by
    intro N
    induction N with
    | zero => intro p SA mA t d hg hq hp hp0 hm1 ht hd hu hn hi hpo hN; exact absurd hN (Nat.not_lt_zero _)
    | succ N ih49 =>
      intro p SA mA t d hg hq hp hp0 hm1 ht hd hu hn hi hpo hN
      refine zT.astore_n 1 dX1_keep_49 rfl (by decide) (zpre1 rfl (zcR _)) ?_
      show zT G _ _ _ [zR x, zR p] _ _ _ _ _ _ _
      refine zT.aload_n 0 dX1_keep_50 rfl rfl ?_
      refine zT.getI dX1_keep_51 fX1_215 rfl (zPan.k (hR.sh.gr hg)) (j := 17) (by decide) rfl (fun z51 => ?_)
      have r51 : mA x 17 = m x 17 := by rw [hm1 _ _ (Or.inl (by omega))]
      rw [r51] at z51 ⊢
      refine zT.bipush dX1_keep_54 ?_
      refine zT.ic_ne (tgt := 84) dX1_keep_56 (by decide) (by first | assumption | exact zq_i _ | exact zand_i _ _ | exact zor_i _ _ | exact zxor_i _ _ | exact zN _ | omega) (by first | assumption | exact zq_i _ | exact zand_i _ _ | exact zor_i _ _ | exact zxor_i _ _ | exact zN _ | omega) (fun c56 => ?_) (fun c56 => ?_)
      · have hO89 : zPR SA mA (x + 14) (A 2 58) (aGo (A 2) 58) := hpl.fr hg (fun a h1 h2 j => by
          rw [hm1 _ _ (by first | exact Or.inl (by omega) | exact Or.inr (by assumption))])
        have hO1 := hO89.2.1
        refine zT.aload_n 1 dX1_keep_84 rfl rfl ?_
        refine zT.aload_n 0 dX1_keep_85 rfl rfl ?_
        refine zT.getF dX1_keep_86 fX1_73 rfl (zPan.k (hR.sh.gr hg)) (j := 8) (by decide) rfl (zPan.f8 (hR.sh.gr hg)) ?_
        refine zT.callV (M' := mX4_be) (b := p) [zR (x + 14)] [] dX1_keep_89 kX1_273 rfl rfl (ci := 3) (r := (RX4, TX4, 6)) rfl (zPlan.k hq) (C_X4_be hq (zPan.o8 (hR.sh.gr hg)) (by omega) (by omega) (by omega) (by omega)) (by decide) (k' := 0) (n' := 0) (by omega) (by omega) (by decide) (zdk (v := none) ?_) (fun _ _ _ _ h => h.elim)
        show zT G _ _ _ _ [] _ _ _ _ _ _
        obtain ⟨m1, em1⟩ : ∃ z, z = zbe mA p (x + 14) := ⟨_, rfl⟩
        rw [← em1]
        refine zT.aload_n 0 dX1_keep_92 rfl rfl ?_
        refine zT.getF dX1_keep_93 fX1_103 rfl (zPan.k (hR.sh.gr hg)) (j := 16) (by decide) rfl (zPan.f16 (hR.sh.gr hg)) ?_
        refine zT.aload_n 0 dX1_keep_96 rfl rfl ?_
        refine zT.getI dX1_keep_97 fX1_215 rfl (zPan.k (hR.sh.gr hg)) (j := 17) (by decide) rfl (fun z97 => ?_)
        have r97 : m1 x 17 = m x 17 := by rw [em1, zbe_ne (by omega), hm1 _ _ (Or.inl (by omega))]
        rw [r97] at z97 ⊢
        refine zT.aload_n 1 dX1_keep_100 rfl rfl ?_
        refine zT.aast dX1_keep_101 (by rw [(zPan.a16 (hR.sh.gr hg))]; decide) (by first | assumption | exact zq_i _ | exact zand_i _ _ | exact zor_i _ _ | exact zxor_i _ _ | exact zN _ | omega) (by rw [(zPan.n16 (hR.sh.gr hg))]; first | assumption | exact zq_i _ | exact zand_i _ _ | exact zor_i _ _ | exact zxor_i _ _ | exact zN _ | omega) (Or.inr ⟨hq.k, (rfl : zcl[3]? = some (RX4, TX4, 6)), by rw [(zPan.a16 (hR.sh.gr hg))]; exact Or.inl rfl⟩) ?_
        obtain ⟨m2, em2⟩ : ∃ z, z = zup m1 (x + 29) (m x 17) p := ⟨_, rfl⟩
        rw [← em2]
        refine zT.aload_n 0 dX1_keep_102 rfl rfl ?_
        refine zT.dup dX1_keep_103 (zcR _) ?_
        refine zT.getI dX1_keep_104 fX1_215 rfl (zPan.k (hR.sh.gr hg)) (j := 17) (by decide) rfl (fun z104 => ?_)
        have r104 : m2 x 17 = m x 17 := by rw [em2, zup_ne (by omega), em1, zbe_ne (by omega), hm1 _ _ (Or.inl (by omega))]
        rw [r104] at z104 ⊢
        refine zT.iconst dX1_keep_107 ?_
        refine zT.iadd dX1_keep_108 ?_
        refine zT.putI dX1_keep_109 fX1_215 zs_17 rfl (zPan.k (hR.sh.gr hg)) (j := 17) (by decide) rfl (by first | assumption | exact zq_i _ | exact zand_i _ _ | exact zor_i _ _ | exact zxor_i _ _ | exact zN _ | omega) ?_
        obtain ⟨m3, em3⟩ : ∃ z, z = zup m2 x 17 ((m x 17) + 1) := ⟨_, rfl⟩
        rw [← em3]
        refine zT.vret dX1_keep_112 rfl ?_
        have hpp : zPR SA m3 p (A 2 58) (aGo (A 2) 58) := (zbe_pr hq hO89 (by omega)).fr zGr.rf (fun a a0 a1 j => by rw [em3, zup_ne (by omega), em2, zup_ne (by omega), em1])
        refine ⟨rfl, hg, hR.keep (p := p) (t := t) (d := d) hg hp0 hp hpp ?_ ?_ ht hd hu ?_ ?_ hn hi, ?_, ?_⟩
        · intro k j k0 k1 hne
          rw [em3, zup_ne (by omega), em2, zup_ne (by omega), em1, zbe_ne (by omega), hm1 _ _ (by first | exact Or.inl (by omega) | exact Or.inr (by assumption))]
        · intro a a0 ha hap j
          rw [em3, zup_ne (by omega), em2, zup_ne (by omega), em1, zbe_ne (by omega), hm1 _ _ (by first | exact Or.inl (by omega) | exact Or.inr (by assumption))]
        · rw [em3, zup_at]
          omega
        · intro q q0 q1
          by_cases e : q = t
          · rw [if_pos e, em3, zup_ne (by omega), em2, show q = m x 17 by omega, zup_at]
          · rw [if_neg e, em3, zup_ne (by omega), em2, zup_ne (by omega), em1, zbe_ne (by omega), hm1 _ _ (Or.inl (by omega))]
            congr 1
            omega
        · intro a a0 a1 j
          rw [em3, zup_ne (by omega), em2, zup_ne (by omega), em1, zbe_ne (by omega), hm1 _ _ (by first | exact Or.inl (by omega) | exact Or.inr (by assumption))]
        · intro r hr hr0 hrq a a0 a1 j
          have hne : p ≠ r := hpo.ne hr hrq
          have hap := hq.ap (hr.gr hg) hne
          have hk9 := hr.kk a0 a1
          rw [em3, zup_ne (by omega), em2, zup_ne (by omega), em1, zbe_ne (by omega), hm1 _ _ (by first | exact Or.inl (by omega) | exact Or.inr (by assumption))]
      · refine zT.aload_n 0 dX1_keep_59 rfl rfl ?_
        refine zT.getF dX1_keep_60 fX1_103 rfl (zPan.k (hR.sh.gr hg)) (j := 16) (by decide) rfl (zPan.f16 (hR.sh.gr hg)) ?_
        refine zT.iconst dX1_keep_63 ?_
        refine zT.aload_n 0 dX1_keep_64 rfl rfl ?_
        refine zT.getF dX1_keep_65 fX1_103 rfl (zPan.k (hR.sh.gr hg)) (j := 16) (by decide) rfl (zPan.f16 (hR.sh.gr hg)) ?_
        refine zT.iconst dX1_keep_68 ?_
        refine zT.bipush dX1_keep_69 ?_
        refine zT.acopy dX1_keep_71 q862 (zPan.a16 (hR.sh.gr hg)) (zPan.a16 (hR.sh.gr hg)) (Or.inr ⟨by decide, fun i i0 i1 s H a1 a2 a3 a4 => by
          rw [hm1 _ _ (Or.inl (by omega))]
          rcases hun.2.1 i (by omega) (by omega) with e | ⟨e, e2⟩
          · exact Or.inl (by omega)
          · exact zEl.obj a1 a2 a4 (ci := 3) (r := (RX4, TX4, 6)) (e2.gr hg).k rfl (Or.inl rfl)⟩) (by first | assumption | exact zq_i _ | exact zand_i _ _ | exact zor_i _ _ | exact zxor_i _ _ | exact zN _ | omega) (by first | assumption | exact zq_i _ | exact zand_i _ _ | exact zor_i _ _ | exact zxor_i _ _ | exact zN _ | omega) (by first | assumption | exact zq_i _ | exact zand_i _ _ | exact zor_i _ _ | exact zxor_i _ _ | exact zN _ | omega) (by rw [(zPan.n16 (hR.sh.gr hg))]; first | assumption | exact zq_i _ | exact zand_i _ _ | exact zor_i _ _ | exact zxor_i _ _ | exact zN _ | omega) (by rw [(zPan.n16 (hR.sh.gr hg))]; first | assumption | exact zq_i _ | exact zand_i _ _ | exact zor_i _ _ | exact zxor_i _ _ | exact zN _ | omega) (by decide) (by decide) ?_
        obtain ⟨m4, em4⟩ : ∃ z, z = zfl mA (x + 29) 0 (0 + 7) (fun j => mA (x + 29) (1 + (j - 0))) := ⟨_, rfl⟩
        rw [← em4]
        refine zT.aload_n 0 dX1_keep_74 rfl rfl ?_
        refine zT.dup dX1_keep_75 (zcR _) ?_
        refine zT.getI dX1_keep_76 fX1_215 rfl (zPan.k (hR.sh.gr hg)) (j := 17) (by decide) rfl (fun z76 => ?_)
        have r76 : m4 x 17 = m x 17 := by rw [em4, zfl_ne (by omega), hm1 _ _ (Or.inl (by omega))]
        rw [r76] at z76 ⊢
        refine zT.iconst dX1_keep_79 ?_
        refine zT.isub dX1_keep_80 ?_
        refine zT.putI dX1_keep_81 fX1_215 zs_17 rfl (zPan.k (hR.sh.gr hg)) (j := 17) (by decide) rfl (by first | assumption | exact zq_i _ | exact zand_i _ _ | exact zor_i _ _ | exact zxor_i _ _ | exact zN _ | omega) ?_
        obtain ⟨m5, em5⟩ : ∃ z, z = zup m4 x 17 ((m x 17) - 1) := ⟨_, rfl⟩
        rw [← em5]
        have hO89 : zPR SA m5 (x + 14) (A 2 58) (aGo (A 2) 58) := hpl.fr hg (fun a h1 h2 j => by
          rw [em5, zup_ne (by omega), em4, zfl_ne (by omega), hm1 _ _ (by first | exact Or.inl (by omega) | exact Or.inr (by assumption))])
        have hO1 := hO89.2.1
        refine zT.aload_n 1 dX1_keep_84 rfl rfl ?_
        refine zT.aload_n 0 dX1_keep_85 rfl rfl ?_
        refine zT.getF dX1_keep_86 fX1_73 rfl (zPan.k (hR.sh.gr hg)) (j := 8) (by decide) rfl (zPan.f8 (hR.sh.gr hg)) ?_
        refine zT.callV (M' := mX4_be) (b := p) [zR (x + 14)] [] dX1_keep_89 kX1_273 rfl rfl (ci := 3) (r := (RX4, TX4, 6)) rfl (zPlan.k hq) (C_X4_be hq (zPan.o8 (hR.sh.gr hg)) (by omega) (by omega) (by omega) (by omega)) (by decide) (k' := 0) (n' := 0) (by omega) (by omega) (by decide) (zdk (v := none) ?_) (fun _ _ _ _ h => h.elim)
        show zT G _ _ _ _ [] _ _ _ _ _ _
        obtain ⟨m6, em6⟩ : ∃ z, z = zbe m5 p (x + 14) := ⟨_, rfl⟩
        rw [← em6]
        refine zT.aload_n 0 dX1_keep_92 rfl rfl ?_
        refine zT.getF dX1_keep_93 fX1_103 rfl (zPan.k (hR.sh.gr hg)) (j := 16) (by decide) rfl (zPan.f16 (hR.sh.gr hg)) ?_
        refine zT.aload_n 0 dX1_keep_96 rfl rfl ?_
        refine zT.getI dX1_keep_97 fX1_215 rfl (zPan.k (hR.sh.gr hg)) (j := 17) (by decide) rfl (fun z97 => ?_)
        have r97 : m6 x 17 = (m x 17) - 1 := by rw [em6, zbe_ne (by omega), em5, zup_at]
        rw [r97] at z97 ⊢
        refine zT.aload_n 1 dX1_keep_100 rfl rfl ?_
        refine zT.aast dX1_keep_101 (by rw [(zPan.a16 (hR.sh.gr hg))]; decide) (by first | assumption | exact zq_i _ | exact zand_i _ _ | exact zor_i _ _ | exact zxor_i _ _ | exact zN _ | omega) (by rw [(zPan.n16 (hR.sh.gr hg))]; first | assumption | exact zq_i _ | exact zand_i _ _ | exact zor_i _ _ | exact zxor_i _ _ | exact zN _ | omega) (Or.inr ⟨hq.k, (rfl : zcl[3]? = some (RX4, TX4, 6)), by rw [(zPan.a16 (hR.sh.gr hg))]; exact Or.inl rfl⟩) ?_
        obtain ⟨m7, em7⟩ : ∃ z, z = zup m6 (x + 29) ((m x 17) - 1) p := ⟨_, rfl⟩
        rw [← em7]
        refine zT.aload_n 0 dX1_keep_102 rfl rfl ?_
        refine zT.dup dX1_keep_103 (zcR _) ?_
        refine zT.getI dX1_keep_104 fX1_215 rfl (zPan.k (hR.sh.gr hg)) (j := 17) (by decide) rfl (fun z104 => ?_)
        have r104 : m7 x 17 = (m x 17) - 1 := by rw [em7, zup_ne (by omega), em6, zbe_ne (by omega), em5, zup_at]
        rw [r104] at z104 ⊢
        refine zT.iconst dX1_keep_107 ?_
        refine zT.iadd dX1_keep_108 ?_
        refine zT.putI dX1_keep_109 fX1_215 zs_17 rfl (zPan.k (hR.sh.gr hg)) (j := 17) (by decide) rfl (by first | assumption | exact zq_i _ | exact zand_i _ _ | exact zor_i _ _ | exact zxor_i _ _ | exact zN _ | omega) ?_
        obtain ⟨m8, em8⟩ : ∃ z, z = zup m7 x 17 (((m x 17) - 1) + 1) := ⟨_, rfl⟩
        rw [← em8]
        refine zT.vret dX1_keep_112 rfl ?_
        have hpp : zPR SA m8 p (A 2 58) (aGo (A 2) 58) := (zbe_pr hq hO89 (by omega)).fr zGr.rf (fun a a0 a1 j => by rw [em8, zup_ne (by omega), em7, zup_ne (by omega), em6])
        refine ⟨rfl, hg, hR.keep (p := p) (t := t) (d := d) hg hp0 hp hpp ?_ ?_ ht hd hu ?_ ?_ hn hi, ?_, ?_⟩
        · intro k j k0 k1 hne
          rw [em8, zup_ne (by omega), em7, zup_ne (by omega), em6, zbe_ne (by omega), em5, zup_ne (by omega), em4, zfl_ne (by omega), hm1 _ _ (by first | exact Or.inl (by omega) | exact Or.inr (by assumption))]
        · intro a a0 ha hap j
          rw [em8, zup_ne (by omega), em7, zup_ne (by omega), em6, zbe_ne (by omega), em5, zup_ne (by omega), em4, zfl_ne (by omega), hm1 _ _ (by first | exact Or.inl (by omega) | exact Or.inr (by assumption))]
        · rw [em8, zup_at]
          omega
        · intro q q0 q1
          by_cases e : q = t
          · rw [if_pos e, em8, zup_ne (by omega), em7, show q = m x 17 - 1 by omega, zup_at]
          · rw [if_neg e, em8, zup_ne (by omega), em7, zup_ne (by omega), em6, zbe_ne (by omega), em5, zup_ne (by omega), em4, zfl_at (by omega) (by omega)]
            show mA (x + 29) (1 + (q - 0)) = m (x + 29) (q + d)
            rw [hm1 _ _ (Or.inl (by omega))]
            congr 1
            omega
        · intro a a0 a1 j
          rw [em8, zup_ne (by omega), em7, zup_ne (by omega), em6, zbe_ne (by omega), em5, zup_ne (by omega), em4, zfl_ne (by omega), hm1 _ _ (by first | exact Or.inl (by omega) | exact Or.inr (by assumption))]
        · intro r hr hr0 hrq a a0 a1 j
          have hne : p ≠ r := hpo.ne hr hrq
          have hap := hq.ap (hr.gr hg) hne
          have hk9 := hr.kk a0 a1
          rw [em8, zup_ne (by omega), em7, zup_ne (by omega), em6, zbe_ne (by omega), em5, zup_ne (by omega), em4, zfl_ne (by omega), hm1 _ _ (by first | exact Or.inl (by omega) | exact Or.inr (by assumption))]
  refine zT.wfS (fun w0 => ?_)
  have hx9 := (w0 x kx).1
  refine zT.aload_n 0 dX1_keep_0 rfl rfl ?_
  refine zT.getI dX1_keep_1 fX1_215 rfl (zPan.k hR.sh) (j := 17) (by decide) rfl (fun z1 => ?_)
  refine zT.bipush dX1_keep_4 ?_
  refine zT.ic_ne (tgt := 18) dX1_keep_6 (by decide) (by first | assumption | exact zq_i _ | exact zand_i _ _ | exact zor_i _ _ | exact zxor_i _ _ | exact zN _ | omega) (by first | assumption | exact zq_i _ | exact zand_i _ _ | exact zor_i _ _ | exact zxor_i _ _ | exact zN _ | omega) (fun c6 => ?_) (fun c6 => ?_)
  · refine zT.aload_n 0 dX1_keep_18 rfl rfl ?_
    refine zT.getF dX1_keep_19 fX1_103 rfl (zPan.k hR.sh) (j := 16) (by decide) rfl (zPan.f16 hR.sh) ?_
    refine zT.aload_n 0 dX1_keep_22 rfl rfl ?_
    refine zT.getI dX1_keep_23 fX1_215 rfl (zPan.k hR.sh) (j := 17) (by decide) rfl (fun z23 => ?_)
    refine zT.aald dX1_keep_26 (by rw [(zPan.a16 hR.sh)]; decide) (by first | assumption | exact zq_i _ | exact zand_i _ _ | exact zor_i _ _ | exact zxor_i _ _ | exact zN _ | omega) (by rw [(zPan.n16 hR.sh)]; first | assumption | exact zq_i _ | exact zand_i _ _ | exact zor_i _ _ | exact zxor_i _ _ | exact zN _ | omega) ?_
    refine zT.ifnonnull (tgt := 40) dX1_keep_27 (by decide) (fun c27 => ?_) (fun c27 => ?_)
    · refine zT.aload_n 0 dX1_keep_40 rfl rfl ?_
      refine zT.getF dX1_keep_41 fX1_103 rfl (zPan.k hR.sh) (j := 16) (by decide) rfl (zPan.f16 hR.sh) ?_
      refine zT.aload_n 0 dX1_keep_44 rfl rfl ?_
      refine zT.getI dX1_keep_45 fX1_215 rfl (zPan.k hR.sh) (j := 17) (by decide) rfl (fun z45 => ?_)
      refine zT.aald dX1_keep_48 (by rw [(zPan.a16 hR.sh)]; decide) (by first | assumption | exact zq_i _ | exact zand_i _ _ | exact zor_i _ _ | exact zxor_i _ _ | exact zN _ | omega) (by rw [(zPan.n16 hR.sh)]; first | assumption | exact zq_i _ | exact zand_i _ _ | exact zor_i _ _ | exact zxor_i _ _ | exact zN _ | omega) ?_
      exact zT.room (L49 _ (m (x + 29) (m x 17)) S m (m x 17) 0 (by exact zGr.rf) (by exact (nn (m x 17) (by omega) (by omega) (by omega)).1) (by exact (nn (m x 17) (by omega) (by omega) (by omega)).2) (by have := (nn (m x 17) (by omega) (by omega) (by omega)).2; have := hx9; omega) (by exact fun _ _ _ => rfl) (by first | assumption | exact zq_i _ | exact zand_i _ _ | exact zor_i _ _ | exact zxor_i _ _ | exact zN _ | omega) (by exact Or.inl rfl) (by first | assumption | exact zq_i _ | exact zand_i _ _ | exact zor_i _ _ | exact zxor_i _ _ | exact zN _ | omega) (by
          exact fun q q0 q1 q2 => by
            rw [Int.add_zero]
            rcases Int.lt_or_gt_of_ne q2 with z | z
            · have := hun.2.2.2 q (m x 17) q0 z (by omega)
              omega
            · have := hun.2.2.2 (m x 17) q (by omega) z q1
              omega) (by
          exact fun i i0 i1 => by
            have := hR.im.2.2 (m x 17) i (by omega) (by omega) i0 i1
            have := (nn (m x 17) (by omega) (by omega) (by omega)).2
            have := hx9
            omega) (by exact Or.inl ⟨m x 17, by omega, by omega, rfl⟩) (Nat.lt_succ_self _)) (by omega) (by omega)
    · refine zT.wfS (fun w30 => ?_)
      refine zT.wfX (fun u30 => ?_)
      refine zT.new (ci := 3) (r := (RX4, TX4, 6)) dX1_keep_30 rfl q326 q327 q112 (k' := 5) (n' := 2000) (by omega) (by omega) ?_
      obtain ⟨p30, ep30⟩ : ∃ z, z = zx S := ⟨_, rfl⟩
      rw [← ep30]
      obtain ⟨S9, eS9⟩ : ∃ z, z = zal S 4 0 := ⟨_, rfl⟩
      rw [← eS9]
      have gS9 : zGr S S9 := by rw [eS9]; exact zGr.al (zfr0 w30)
      have kS9 : zk S9 p30 = 4 := by rw [eS9, zk_al, ep30, if_pos rfl]
      have xS9 : zx S9 = p30 + 1 := by rw [eS9, zx_al, ep30]
      have zS9 : zk S p30 = 0 := by rw [ep30]; exact zfr0 w30
      obtain ⟨m10, em10⟩ : ∃ z, z = znw m 4 p30 := ⟨_, rfl⟩
      rw [← em10]
      refine zT.dup dX1_keep_33 (zcR _) ?_
      refine zT.callIN (M' := mX4_init) (b := p30) [] [zR p30] dX1_keep_34 kX1_72 rfl rfl (by omega) (C_X4_init kS9 xS9 (by omega)) (by decide) (k' := 0) (n' := 0) (by omega) (by omega) (by simp only [List.map, zcI, zcJ, zcR, List.sum_cons, List.sum_nil]; decide) (fun v34 S34_ m34_ h34 => ?_) (fun _ _ _ _ h => h.elim)
      obtain ⟨rfl, x34, hq34, gx34, f34⟩ := h34
      have gn34 : zGr S S34_ := zGx.gr gS9 zS9 gx34
      show zT G _ _ _ _ [zR p30] _ _ _ _ _ _
      refine zT.goto (tgt := 49) dX1_keep_37 (by decide) ?_
      exact zT.room (L49 _ p30 S34_ m34_ (m x 17) 0 (by exact gn34) (by exact hq34) (by omega) (by omega) (by
          exact fun a j ha => by
            have q9 : a < p30 := by
              rcases ha with ha | ha
              · omega
              · have := w30 a ha
                omega
            rw [f34 _ (by omega) _, em10, znw_ne (by omega)]) (by first | assumption | exact zq_i _ | exact zand_i _ _ | exact zor_i _ _ | exact zxor_i _ _ | exact zN _ | omega) (by exact Or.inl rfl) (by first | assumption | exact zq_i _ | exact zand_i _ _ | exact zor_i _ _ | exact zxor_i _ _ | exact zN _ | omega) (by
          exact fun q q0 q1 q2 => by
            rw [Int.add_zero]
            intro e
            rcases hun.2.1 q q0 q1 with z | ⟨z, z2⟩
            · omega
            · have := w30 (m (x + 29) q) (by rw [z2.k]; omega)
              omega) (by
          exact fun i i0 i1 e => by
            rcases hR.im.1 i i0 i1 with z | z
            · omega
            · have := w30 (m (x + 52) i) (by rw [z.2.2.1.1.k]; omega)
              omega) (by exact Or.inr (by first | assumption | (rw [ep30]; exact zfr0 w30))) (Nat.lt_succ_self _)) (by omega) (by omega)
  · refine zT.aload_n 0 dX1_keep_9 rfl rfl ?_
    refine zT.getF dX1_keep_10 fX1_103 rfl (zPan.k hR.sh) (j := 16) (by decide) rfl (zPan.f16 hR.sh) ?_
    refine zT.iconst dX1_keep_13 ?_
    refine zT.aald dX1_keep_14 (by rw [(zPan.a16 hR.sh)]; decide) (by first | assumption | exact zq_i _ | exact zand_i _ _ | exact zor_i _ _ | exact zxor_i _ _ | exact zN _ | omega) (by rw [(zPan.n16 hR.sh)]; first | assumption | exact zq_i _ | exact zand_i _ _ | exact zor_i _ _ | exact zxor_i _ _ | exact zN _ | omega) ?_
    refine zT.goto (tgt := 49) dX1_keep_15 (by decide) ?_
    exact zT.room (L49 _ (m (x + 29) 0) S m 7 1 (by exact zGr.rf) (by exact (nn 0 (by omega) (by omega) (by have := hR.un.2.2.1 0 (by omega) (by omega); have := this.1; omega)).1) (by exact (nn 0 (by omega) (by omega) (by have := hR.un.2.2.1 0 (by omega) (by omega); have := this.1; omega)).2) (by have := (nn 0 (by omega) (by omega) (by have := hR.un.2.2.1 0 (by omega) (by omega); have := this.1; omega)).2; have := hx9; omega) (by exact fun _ _ _ => rfl) (by first | assumption | exact zq_i _ | exact zand_i _ _ | exact zor_i _ _ | exact zxor_i _ _ | exact zN _ | omega) (by exact Or.inr ⟨rfl, rfl⟩) (by first | assumption | exact zq_i _ | exact zand_i _ _ | exact zor_i _ _ | exact zxor_i _ _ | exact zN _ | omega) (by
        exact fun q q0 q1 q2 => by
          have := hun.2.2.2 0 (q + 1) (by omega) (by omega) (by omega)
          have := (nn 0 (by omega) (by omega) (by have := hR.un.2.2.1 0 (by omega) (by omega); have := this.1; omega)).2
          have := hx9
          omega) (by
        exact fun i i0 i1 => by
          have := hR.im.2.2 0 i (by omega) (by omega) i0 i1
          have := (nn 0 (by omega) (by omega) (by have := hR.un.2.2.1 0 (by omega) (by omega); have := this.1; omega)).2
          have := hx9
          omega) (by exact Or.inl ⟨0, by omega, by omega, rfl⟩) (Nat.lt_succ_self _)) (by omega) (by omega)

theorem C_X1_earliest {G : zG}  {S : zS} {m : zMm} {x : Int} {A : zMm} (hR : rel S m x A) {k : Int} (k0 : 0 ≤ k) (k1 : k < A 2 58) : zC G mX1_earliest 3 0 0 [zR x, zI k] S m (zDet (some (zI (fEl (aK (A 0 1023) (A 2)) (aGo (A 2) 58) k))) S (zup m (x + 14 + 3) k (fEl (aK (A 0 1023) (A 2)) (aGo (A 2) 58) k))) zNX := by
  have hk := hR.vki.1
  have hKi := (hR.ki.2.1).ki hk
  have hKn := hKi.nu
  have hkr := hR.ki.2.1
  have hkf := hkr.2.1
  have hk0 := hk.1
  have hpl := hR.pl
  have hpv := hR.vpl
  have hPl := hpl.pl hpv
  have hPl0 := hPl.1
  have hPl1 := hPl.2.1
  have hgn := hpl.2.1
  have hB : A 0 1023 = 1 := by
    rcases hR.vbg with z | ⟨z, z2⟩
    · exact z
    · rw [z2] at k1
      omega
  have ge := hpl.2.2 k k0 k1
  have gv := hpv.2.2 k k0 k1
  refine zC.of [zR x, zI k, zU, zU] (by decide) rfl (zEn1 (zcR _) (zEn1 (zcI _) (zEn0 (by simp)))) rfl ?_
  obtain ⟨Q9, eQ9⟩ : ∃ z : zQt, z = (zDet (some (zI (fEl (aK (A 0 1023) (A 2)) (aGo (A 2) 58) k))) S (zup m (x + 14 + 3) k (fEl (aK (A 0 1023) (A 2)) (aGo (A 2) 58) k))) := ⟨_, rfl⟩
  rw [← eQ9]
  refine zT.aload_n 0 dX1_earliest_0 rfl rfl ?_
  refine zT.getF dX1_earliest_1 fX1_73 rfl (zPan.k hR.sh) (j := 8) (by decide) rfl (zPan.f8 hR.sh) ?_
  refine zT.getF dX1_earliest_4 fX1_284 rfl (zPlan.k (zPan.o8 hR.sh)) (j := 2) (by decide) rfl (zPlan.f302 (zPan.o8 hR.sh)) ?_
  refine zT.iload_n 1 dX1_earliest_7 rfl rfl ?_
  refine zT.iald dX1_earliest_8 (zPlan.a302 (zPan.o8 hR.sh)) (by first | assumption | exact zq_i _ | exact zand_i _ _ | exact zor_i _ _ | exact zxor_i _ _ | exact zN _ | omega) (by rw [(zPlan.n302 (zPan.o8 hR.sh))]; first | assumption | exact zq_i _ | exact zand_i _ _ | exact zor_i _ _ | exact zxor_i _ _ | exact zN _ | omega) (fun z8 => ?_)
  rw [ge.2.2.1]
  show zT G _ _ _ _ [zI ((aGo (A 2) 58) k 2)] _ _ _ _ _ _
  refine zT.istore_n 2 dX1_earliest_9 rfl (by decide) (zpre1 rfl (zcI _)) ?_
  show zT G _ _ _ [zR x, zI k, zI ((aGo (A 2) 58) k 2), zU] _ _ _ _ _ _ _
  refine zT.iconst dX1_earliest_10 ?_
  refine zT.istore_n 3 dX1_earliest_11 rfl (by decide) (zpre1 rfl (zcI _)) ?_
  show zT G _ _ _ [zR x, zI k, zI ((aGo (A 2) 58) k 2), zI 0] _ _ _ _ _ _ _
  have L12 : ∀ (N : Nat) (t : Int) (u : Int), (0 ≤ t) → (t ≤ (aGo (A 2) 58) k 2) → (∀ j, 0 ≤ j → j < t → ¬ aWhy (aK (A 0 1023) (A 2)) (aGo (A 2) 58) k j = 0) → (((aGo (A 2) 58) k 2 - t).toNat) < N → zT G mX1_earliest 3 12 [zR x, zI k, zI ((aGo (A 2) 58) k 2), zI t] [] S (zup m (x + 14 + 3) k u) 0 0 Q9 zNX := by
    intro N
    induction N with
    | zero => intro t u t0 t1 hz hN; exact absurd hN (Nat.not_lt_zero _)
    | succ N ih12 =>
      intro t u t0 t1 hz hN
      obtain ⟨m1, em1⟩ : ∃ z, z = zup m (x + 14 + 3) k u := ⟨_, rfl⟩
      rw [← em1]
      refine zT.iload_n 3 dX1_earliest_12 rfl rfl ?_
      refine zT.iload_n 2 dX1_earliest_13 rfl rfl ?_
      refine zT.ic_ge (tgt := 50) dX1_earliest_14 (by decide) (by first | assumption | exact zq_i _ | exact zand_i _ _ | exact zor_i _ _ | exact zxor_i _ _ | exact zN _ | omega) (by first | assumption | exact zq_i _ | exact zand_i _ _ | exact zor_i _ _ | exact zxor_i _ _ | exact zN _ | omega) (fun c14 => ?_) (fun c14 => ?_)
      · refine zT.aload_n 0 dX1_earliest_50 rfl rfl ?_
        refine zT.getF dX1_earliest_51 fX1_73 rfl (zPan.k hR.sh) (j := 8) (by decide) rfl (zPan.f8 hR.sh) ?_
        refine zT.getF dX1_earliest_54 fX1_284 rfl (zPlan.k (zPan.o8 hR.sh)) (j := 2) (by decide) rfl (zPlan.f302 (zPan.o8 hR.sh)) ?_
        refine zT.iload_n 1 dX1_earliest_57 rfl rfl ?_
        refine zT.iload_n 2 dX1_earliest_58 rfl rfl ?_
        refine zT.iast dX1_earliest_59 (zPlan.a302 (zPan.o8 hR.sh)) (by first | assumption | exact zq_i _ | exact zand_i _ _ | exact zor_i _ _ | exact zxor_i _ _ | exact zN _ | omega) (by rw [(zPlan.n302 (zPan.o8 hR.sh))]; first | assumption | exact zq_i _ | exact zand_i _ _ | exact zor_i _ _ | exact zxor_i _ _ | exact zN _ | omega) (by first | assumption | exact zq_i _ | exact zand_i _ _ | exact zor_i _ _ | exact zxor_i _ _ | exact zN _ | omega) ?_
        obtain ⟨m2, em2⟩ : ∃ z, z = zup m1 ((x + 14) + 3) k ((aGo (A 2) 58) k 2) := ⟨_, rfl⟩
        rw [← em2]
        refine zT.iload_n 2 dX1_earliest_60 rfl rfl ?_
        refine zT.iret dX1_earliest_61 rfl ?_
        rw [eQ9]
        have e9 : t = (aGo (A 2) 58) k 2 := by omega
        rw [e9] at hz
        exact ⟨by rw [fEl_f hz], rfl, by rw [fEl_f hz, em2, em1, zup_zup]⟩
      · refine zT.aload_n 0 dX1_earliest_17 rfl rfl ?_
        refine zT.getF dX1_earliest_18 fX1_73 rfl (zPan.k hR.sh) (j := 8) (by decide) rfl (zPan.f8 hR.sh) ?_
        refine zT.getF dX1_earliest_21 fX1_284 rfl (zPlan.k (zPan.o8 hR.sh)) (j := 2) (by decide) rfl (zPlan.f302 (zPan.o8 hR.sh)) ?_
        refine zT.iload_n 1 dX1_earliest_24 rfl rfl ?_
        refine zT.iload_n 3 dX1_earliest_25 rfl rfl ?_
        refine zT.iast dX1_earliest_26 (zPlan.a302 (zPan.o8 hR.sh)) (by first | assumption | exact zq_i _ | exact zand_i _ _ | exact zor_i _ _ | exact zxor_i _ _ | exact zN _ | omega) (by rw [(zPlan.n302 (zPan.o8 hR.sh))]; first | assumption | exact zq_i _ | exact zand_i _ _ | exact zor_i _ _ | exact zxor_i _ _ | exact zN _ | omega) (by first | assumption | exact zq_i _ | exact zand_i _ _ | exact zor_i _ _ | exact zxor_i _ _ | exact zN _ | omega) ?_
        obtain ⟨m3, em3⟩ : ∃ z, z = zup m1 ((x + 14) + 3) k t := ⟨_, rfl⟩
        rw [← em3]
        have em9 : m3 = zup m (x + 14 + 3) k t := by rw [em3, em1, zup_zup]
        have hQ1 : rel S m3 x (uMove A k t) := by rw [em9]; exact hR.move hB k0 k1 (by omega)
        have hn1 : uMove A k t 2 58 = A 2 58 := zup_ne (by omega)
        have hg1 : zPR S m3 (x + 14) (A 2 58) (aGo (uMove A k t 2) 58) := by have q : zPR S m3 (x + 14) (uMove A k t 2 58) (aGo (uMove A k t 2) 58) := hQ1.pl; rw [hn1] at q; exact q
        have hv1 : zGV (A 2 58) (aGo (uMove A k t 2) 58) := by have q : zGV (uMove A k t 2 58) (aGo (uMove A k t 2) 58) := hQ1.vpl; rw [hn1] at q; exact q
        have hx1 : zKR S m3 (m x 7) (aK (A 0 1023) (A 2)) := by rw [em9]; exact hkr.fr zGr.rf (fun a h1 h2 j => zup_ne (by have := hR.ki.1; omega))
        refine zT.aload_n 0 dX1_earliest_27 rfl rfl ?_
        refine zT.getF dX1_earliest_28 fX1_73 rfl (zPan.k hR.sh) (j := 8) (by decide) rfl (zPan.f8 hR.sh) ?_
        refine zT.aload_n 0 dX1_earliest_31 rfl rfl ?_
        refine zT.getR dX1_earliest_32 fX1_66 rfl (zPan.k hR.sh) (j := 7) (by decide) rfl ?_
        have r32 : m3 x 7 = m x 7 := by rw [em3, zup_ne (by omega), em1, zup_ne (by omega)]
        rw [r32]
        refine zT.iload_n 1 dX1_earliest_35 rfl rfl ?_
        refine zT.callV (M' := mX4_why) (b := (x + 14)) [zR (m x 7), zI k] [] dX1_earliest_36 kX1_276 rfl rfl (ci := 3) (r := (RX4, TX4, 6)) rfl (zPlan.k (zPan.o8 hR.sh)) (C_X4_why (n := A 2 58) (g := aGo (uMove A k t 2) 58) (K := (aK (A 0 1023) (A 2))) hg1 hv1 hx1 hk k0 k1) (by decide) (k' := 0) (n' := 0) (by omega) (by omega) (by decide) (zdk (v := some (zI (aWhy (aK (A 0 1023) (A 2)) (aGo (uMove A k t 2) 58) k (aGo (uMove A k t 2) 58 k 2)))) ?_) (fun _ _ _ _ h => h.elim)
        show zT G _ _ _ _ [zI (aWhy (aK (A 0 1023) (A 2)) (aGo (uMove A k t 2) 58) k (aGo (uMove A k t 2) 58 k 2))] _ _ _ _ _ _
        rw [uMove_g (w := 2) (by omega) (by omega), if_pos ⟨rfl, rfl⟩, aWhy_c (g := aGo (uMove A k t 2) 58) (h := (aGo (A 2) 58)) (fun j w j0 j1 w0 w1 => by rw [uMove_g w0 w1, if_neg (by omega)]) ⟨by rw [uMove_g (by omega) (by omega), if_neg (by omega)], by rw [uMove_g (by omega) (by omega), if_neg (by omega)], by rw [uMove_g (by omega) (by omega), if_neg (by omega)], by rw [uMove_g (by omega) (by omega), if_neg (by omega)]⟩]
        have hwb := aWhy_b (K := (aK (A 0 1023) (A 2))) (g := (aGo (A 2) 58)) (k := k) (t := t)
        show zT G _ _ _ _ [zI (aWhy (aK (A 0 1023) (A 2)) (aGo (A 2) 58) k t)] _ _ _ _ _ _
        refine zT.if_ne (tgt := 44) dX1_earliest_39 (by decide) (by first | assumption | exact zq_i _ | exact zand_i _ _ | exact zor_i _ _ | exact zxor_i _ _ | exact zN _ | omega) (fun c39 => ?_) (fun c39 => ?_)
        · refine zT.iinc 3 dX1_earliest_44 rfl (by decide) (zpre1 rfl (zcI _)) ?_
          show zT G _ _ _ [zR x, zI k, zI ((aGo (A 2) 58) k 2), zI (t + 1)] _ _ _ _ _ _ _
          refine zT.goto (tgt := 12) dX1_earliest_47 (by decide) ?_
          have eb12 : m3 = zup m (x + 14 + 3) k t := by
            exact em9
          refine zT.meq eb12 ?_
          exact ih12 _ _ (by first | assumption | exact zq_i _ | exact zand_i _ _ | exact zor_i _ _ | exact zxor_i _ _ | exact zN _ | omega) (by first | assumption | exact zq_i _ | exact zand_i _ _ | exact zor_i _ _ | exact zxor_i _ _ | exact zN _ | omega) (by exact zal_s hz (by assumption)) (by omega)
        · refine zT.iload_n 3 dX1_earliest_42 rfl rfl ?_
          refine zT.iret dX1_earliest_43 rfl ?_
          rw [eQ9]
          exact ⟨by rw [fEl_t hz t0 (by omega) (by assumption)], rfl, by rw [fEl_t hz t0 (by omega) (by assumption)]; exact em9⟩
  have eb12 : m = zup m (x + 14 + 3) k (m (x + 14 + 3) k) := by
    exact zup_id.symm
  refine zT.meq eb12 ?_
  exact L12 _ _ (m (x + 14 + 3) k) (by first | assumption | exact zq_i _ | exact zand_i _ _ | exact zor_i _ _ | exact zxor_i _ _ | exact zN _ | omega) (by first | assumption | exact zq_i _ | exact zand_i _ _ | exact zor_i _ _ | exact zxor_i _ _ | exact zN _ | omega) (by exact zal_0) (Nat.lt_succ_self _)


theorem C_X1_early {G : zG}  {S : zS} {m : zMm} {x : Int} {A : zMm} (hR : rel S m x A)  : zC G mX1_early 4 14 4020 [zR x] S m (zPo S m x (some (zI (eN (aK (A 0 1023) (A 2)) A (A 2 58).toNat))) (if eN (aK (A 0 1023) (A 2)) A (A 2 58).toNat = 0 then uLay A else eA (aK (A 0 1023) (A 2)) (A 2 58).toNat (uSnap (uLay A)))) zNX := by
  have hk := hR.vki.1
  have hKi := (hR.ki.2.1).ki hk
  have hKn := hKi.nu
  have hkr := hR.ki.2.1
  have hkf := hkr.2.1
  have hk0 := hk.1
  have hpl := hR.pl
  have hpv := hR.vpl
  have hPl := hpl.pl hpv
  have hPl0 := hPl.1
  have hPl1 := hPl.2.1
  have hgn := hpl.2.1
  have hpv0 := hpv.1
  refine zC.of [zR x, zU, zU, zU] (by decide) rfl (zEn1 (zcR _) (zEn0 (by simp))) rfl ?_
  refine zT.aload_n 0 dX1_early_0 rfl rfl ?_
  refine zT.getF dX1_early_1 fX1_77 rfl (zPan.k hR.sh) (j := 9) (by decide) rfl (zPan.f9 hR.sh) ?_
  refine zT.aload_n 0 dX1_early_4 rfl rfl ?_
  refine zT.getF dX1_early_5 fX1_73 rfl (zPan.k hR.sh) (j := 8) (by decide) rfl (zPan.f8 hR.sh) ?_
  refine zT.callV (M' := mX4_be) (b := (x + 20)) [zR (x + 14)] [] dX1_early_8 kX1_273 rfl rfl (ci := 3) (r := (RX4, TX4, 6)) rfl (zPlan.k (zPan.o9 hR.sh)) (C_X4_be (zPan.o9 hR.sh) (zPan.o8 hR.sh) (by omega) (by omega) (by omega) (by omega)) (by decide) (k' := 14) (n' := 4020) (by omega) (by omega) (by decide) (zdk (v := none) ?_) (fun _ _ _ _ h => h.elim)
  show zT G _ _ _ _ [] _ _ _ _ _ _
  obtain ⟨m1, em1⟩ : ∃ z, z = zbe m (x + 20) (x + 14) := ⟨_, rfl⟩
  rw [← em1]
  refine zT.iconst dX1_early_11 ?_
  refine zT.istore_n 1 dX1_early_12 rfl (by decide) (zpre1 rfl (zcR _)) ?_
  show zT G _ _ _ [zR x, zI 0, zU, zU] _ _ _ _ _ _ _
  refine zT.iconst dX1_early_13 ?_
  refine zT.istore_n 2 dX1_early_14 rfl (by decide) (zpre1 rfl (zcI _)) ?_
  show zT G _ _ _ [zR x, zI 0, zI 0, zU] _ _ _ _ _ _ _
  have hQ0 : rel S m1 x A := by rw [em1]; exact hR.set_no zGr.rf (fun k j _ _ hi _ => zbe_ne (by unfold rIn at hi; omega)) (fun a a0 _ j => zbe_ne (by omega)) (fun _ _ _ => rfl) trivial
  have ho0 : zOut x m m1 := by rw [em1]; exact fun a a0 a1 j => zbe_ne (by omega)
  have hC0 : zPR S m1 (x + 20) (A 2 58) (aGo (A 2) 58) := by rw [em1]; exact zbe_pr (zPan.o9 hR.sh) hpl (by omega)
  have L15 : ∀ (N : Nat) (mA : zMm) (k : Int) (v : Int), (rel S mA x (eA (aK (A 0 1023) (A 2)) k.toNat A)) → (zOut x m mA) → (zPR S mA (x + 20) (A 2 58) (aGo (A 2) 58)) → (0 ≤ k) → (k ≤ A 2 58) → (v = eN (aK (A 0 1023) (A 2)) A k.toNat) → (∀ a, a < x + 14 ∨ x + 26 ≤ a → ∀ j, mA a j = m a j) → ((A 2 58 - k).toNat) < N → zT G mX1_early 4 15 [zR x, zI v, zI k, zU] [] S mA 14 4020 (zPo S m x (some (zI (eN (aK (A 0 1023) (A 2)) A (A 2 58).toNat))) (if eN (aK (A 0 1023) (A 2)) A (A 2 58).toNat = 0 then uLay A else eA (aK (A 0 1023) (A 2)) (A 2 58).toNat (uSnap (uLay A)))) zNX := by
    intro N
    induction N with
    | zero => intro mA k v hQ hoA hC k0 k1 hv hf1 hN; exact absurd hN (Nat.not_lt_zero _)
    | succ N ih15 =>
      intro mA k v hQ hoA hC k0 k1 hv hf1 hN
      have hBn : eA (aK (A 0 1023) (A 2)) k.toNat A 2 58 = A 2 58 := eA_n k.toNat
      have hBp : aPl A (eA (aK (A 0 1023) (A 2)) k.toNat A) := eA_pl (by omega) k.toNat (by omega)
      have hvv := eN_b (K := (aK (A 0 1023) (A 2))) (A := A) k.toNat
      have hpn := hQ.pl.2.1
      rw [hBn] at hpn
      refine zT.iload_n 2 dX1_early_15 rfl rfl ?_
      refine zT.aload_n 0 dX1_early_16 rfl rfl ?_
      refine zT.getF dX1_early_17 fX1_73 rfl (zPan.k hQ.sh) (j := 8) (by decide) rfl (zPan.f8 hQ.sh) ?_
      refine zT.getI dX1_early_20 fX1_213 rfl (zPlan.k (zPan.o8 hQ.sh)) (j := 5) (by decide) rfl (fun z20 => ?_)
      refine zT.ic_ge (tgt := 77) dX1_early_23 (by decide) (by first | assumption | exact zq_i _ | exact zand_i _ _ | exact zor_i _ _ | exact zxor_i _ _ | exact zN _ | omega) (by first | assumption | exact zq_i _ | exact zand_i _ _ | exact zor_i _ _ | exact zxor_i _ _ | exact zN _ | omega) (fun c23 => ?_) (fun c23 => ?_)
      · have hkn : k = A 2 58 := by omega
        subst hkn
        refine zT.iload_n 1 dX1_early_77 rfl rfl ?_
        refine zT.if_ne (tgt := 83) dX1_early_78 (by decide) (by first | assumption | exact zq_i _ | exact zand_i _ _ | exact zor_i _ _ | exact zxor_i _ _ | exact zN _ | omega) (fun c78 => ?_) (fun c78 => ?_)
        · have hn0 : 0 < A 2 58 := by omega
          have hB1 : A 0 1023 = 1 := by
                      rcases hR.vbg with z | ⟨z, z2⟩
                      · exact z
                      · rw [z2] at hn0
                        omega
          obtain ⟨B, hB9⟩ : ∃ z, z = eA (aK (A 0 1023) (A 2)) (A 2 58).toNat A := ⟨_, rfl⟩
          rw [← hB9] at hQ hBn hBp
          have hBv : zGV (B 2 58) (aGo (B 2) 58) := hQ.vpl
          have hBl : zPR S mA (x + 14) (B 2 58) (aGo (B 2) 58) := hQ.pl
          rw [hBn] at hBv hBl
          refine zT.wfS (fun w83 => ?_)
          refine zT.wfX (fun u83 => ?_)
          refine zT.new (ci := 3) (r := (RX4, TX4, 6)) dX1_early_83 rfl q326 q327 q112 (k' := 13) (n' := 4014) (by omega) (by omega) ?_
          obtain ⟨p83, ep83⟩ : ∃ z, z = zx S := ⟨_, rfl⟩
          rw [← ep83]
          obtain ⟨S2, eS2⟩ : ∃ z, z = zal S 4 0 := ⟨_, rfl⟩
          rw [← eS2]
          have gS2 : zGr S S2 := by rw [eS2]; exact zGr.al (zfr0 w83)
          have kS2 : zk S2 p83 = 4 := by rw [eS2, zk_al, ep83, if_pos rfl]
          have xS2 : zx S2 = p83 + 1 := by rw [eS2, zx_al, ep83]
          have zS2 : zk S p83 = 0 := by rw [ep83]; exact zfr0 w83
          obtain ⟨m3, em3⟩ : ∃ z, z = znw mA 4 p83 := ⟨_, rfl⟩
          rw [← em3]
          refine zT.dup dX1_early_86 (zcR _) ?_
          refine zT.callIN (M' := mX4_init) (b := p83) [] [zR p83] dX1_early_87 kX1_72 rfl rfl (by omega) (C_X4_init kS2 xS2 (by omega)) (by decide) (k' := 8) (n' := 2014) (by omega) (by omega) (by simp only [List.map, zcI, zcJ, zcR, List.sum_cons, List.sum_nil]; decide) (fun v87 S87_ m87_ h87 => ?_) (fun _ _ _ _ h => h.elim)
          obtain ⟨rfl, x87, hq87, gx87, f87⟩ := h87
          have gn87 : zGr S S87_ := zGx.gr gS2 zS2 gx87
          show zT G _ _ _ _ [zR p83] _ _ _ _ _ _
          refine zT.astore_n 2 dX1_early_90 rfl (by decide) (zpre1 rfl (zcI _)) ?_
          show zT G _ _ _ [zR x, zI v, zR p83, zU] _ _ _ _ _ _ _
          have hwd9 := hR.wd.1
          have hm9 : ∀ a j, a < p83 → m87_ a j = mA a j := fun a j h => by rw [f87 _ (by omega) _, em3, znw_ne (by omega)]
          have hg9 : m87_ (x + 14) 305 = A 2 58 := by rw [hm9 _ _ (by omega)]; exact hpn
          refine zT.aload_n 2 dX1_early_91 rfl rfl ?_
          refine zT.aload_n 0 dX1_early_92 rfl rfl ?_
          refine zT.getF dX1_early_93 fX1_73 rfl (zPan.k (hQ.sh.gr gn87)) (j := 8) (by decide) rfl (zPan.f8 (hQ.sh.gr gn87)) ?_
          refine zT.callV (M' := mX4_be) (b := p83) [zR (x + 14)] [] dX1_early_96 kX1_273 rfl rfl (ci := 3) (r := (RX4, TX4, 6)) rfl (zPlan.k hq87) (C_X4_be hq87 (zPan.o8 (hQ.sh.gr gn87)) (by omega) (by omega) (by omega) (by omega)) (by decide) (k' := 8) (n' := 2014) (by omega) (by omega) (by decide) (zdk (v := none) ?_) (fun _ _ _ _ h => h.elim)
          show zT G _ _ _ _ [] _ _ _ _ _ _
          obtain ⟨m4, em4⟩ : ∃ z, z = zbe m87_ p83 (x + 14) := ⟨_, rfl⟩
          rw [← em4]
          refine zT.aload_n 0 dX1_early_99 rfl rfl ?_
          refine zT.getF dX1_early_100 fX1_73 rfl (zPan.k (hQ.sh.gr gn87)) (j := 8) (by decide) rfl (zPan.f8 (hQ.sh.gr gn87)) ?_
          refine zT.aload_n 0 dX1_early_103 rfl rfl ?_
          refine zT.getF dX1_early_104 fX1_77 rfl (zPan.k (hQ.sh.gr gn87)) (j := 9) (by decide) rfl (zPan.f9 (hQ.sh.gr gn87)) ?_
          have hg8 : m4 (x + 20) 305 = A 2 58 := by rw [em4, zbe_ne (by omega), hm9 _ _ (by omega)]; exact hC.2.1
          refine zT.callV (M' := mX4_be) (b := (x + 14)) [zR (x + 20)] [] dX1_early_107 kX1_273 rfl rfl (ci := 3) (r := (RX4, TX4, 6)) rfl (zPlan.k (zPan.o8 (hQ.sh.gr gn87))) (C_X4_be (zPan.o8 (hQ.sh.gr gn87)) (zPan.o9 (hQ.sh.gr gn87)) (by omega) (by omega) (by omega) (by omega)) (by decide) (k' := 8) (n' := 2014) (by omega) (by omega) (by decide) (zdk (v := none) ?_) (fun _ _ _ _ h => h.elim)
          show zT G _ _ _ _ [] _ _ _ _ _ _
          obtain ⟨m5, em5⟩ : ∃ z, z = zbe m4 (x + 14) (x + 20) := ⟨_, rfl⟩
          rw [← em5]
          have hwd := hR.wd.1
          have hmi : ∀ a j, a < p83 → m87_ a j = mA a j := fun a j h => by rw [f87 _ (by omega) _, em3, znw_ne (by omega)]
          have hCi : zPR S87_ m87_ (x + 20) (A 2 58) (aGo (A 2) 58) := hC.fr gn87 (fun a a0 a1 j => hmi a j (by omega))
          have hPi : zPR S87_ m87_ (x + 14) (A 2 58) (aGo (B 2) 58) := hBl.fr gn87 (fun a a0 a1 j => hmi a j (by omega))
          have hMd : zPR S87_ m4 p83 (A 2 58) (aGo (B 2) 58) := by rw [em4]; exact (zbe_pr hq87 hPi (by omega)).fr zGr.rf (fun a a0 a1 j => rfl)
          have hMd2 : zPR S87_ m5 p83 (A 2 58) (aGo (B 2) 58) := hMd.fr zGr.rf (fun a a0 a1 j => by rw [em5]; exact zbe_ne (by omega))
          have hPA : zPR S87_ m5 (x + 14) (A 2 58) (aGo (A 2) 58) := by rw [em5]; exact zbe_pr (hR.pl.1.gr gn87) (hCi.fr zGr.rf (fun a a0 a1 j => by rw [em4]; exact zbe_ne (by omega))) (by omega)
          have hz83 : ∀ a, zk S a ≠ 0 → a < p83 := fun a ha => by rw [ep83]; exact (w83 a ha).2
          have hPA0 : zPR S m5 (x + 14) (A 2 58) (aGo (A 2) 58) := ⟨hR.pl.1, hPA.2⟩
          have hRA : rel S87_ m5 x A := by
                      have q : rel S87_ m87_ x B := hQ.set_no gn87 (fun k j _ _ _ _ => hmi _ j (by omega)) (fun a _ ho j => hmi a j (hz83 a ho.1)) (fun _ _ _ => rfl) trivial
                      have q2 : rel S m4 x B := hQ.set_no zGr.rf (fun k j _ _ _ _ => by rw [em4, zbe_ne (by omega)]; exact hmi _ j (by omega)) (fun a _ ho j => by have h9 := hz83 a ho.1; rw [em4, zbe_ne (by omega)]; exact hmi a j h9) (fun _ _ _ => rfl) trivial
                      exact (q2.plan (m2 := m5) (A2 := A) (by rw [hBp.bg]; exact hB1) (fun a j ha => by rw [em5]; exact zbe_ne (by omega)) (fun o j q => (hBp o j q).symm) hpv (hPA0)).wgr gn87
          have hnu : ∀ q, 0 ≤ q → q < 8 → m5 (x + 29) q ≠ p83 := fun q q0 q1 e => by
            rw [em5, zbe_ne (by omega), em4, zbe_ne (by omega), hmi _ _ (by omega), hf1 _ (by omega)] at e
            rcases hR.un.2.1 q q0 q1 with z | ⟨z, z2⟩
            · omega
            · have h9 := hz83 _ (show zk S (m (x + 29) q) ≠ 0 by rw [z2.k]; decide)
              omega
          have ho9 : zOut x m m5 := fun a a0 a1 j => by rw [em5, zbe_ne (by omega), em4, zbe_ne (by omega), hmi _ _ (by omega)]; exact hoA a a0 a1 j
          refine zT.aload_n 0 dX1_early_110 rfl rfl ?_
          refine zT.callV (M' := mX1_keep) (b := x) [] [] dX1_early_111 kX1_270 rfl rfl (ci := 0) (r := (RX1, TX1, 42)) rfl (zPan.k (hQ.sh.gr gn87)) (C_X1_keepF hRA) (by decide) (k' := 2) (n' := 8) (by omega) (by omega) (by decide) (fun v111 S111_ m111_ h111 => ?_) (fun _ _ _ _ h => h.elim)
          obtain ⟨rfl, g111, hR111, o111, hX111⟩ := h111
          show zT G _ _ _ _ [] _ _ _ _ _ _
          have hMd3 : zPR S111_ m111_ p83 (A 2 58) (aGo (B 2) 58) := hMd2.fr g111 (fun a a0 a1 j => hX111 p83 hMd2.1 (by omega) hnu a a0 a1 j)
          have hg7 := hMd3.2.1
          refine zT.aload_n 0 dX1_early_114 rfl rfl ?_
          refine zT.getF dX1_early_115 fX1_73 rfl (zPan.k hR111.sh) (j := 8) (by decide) rfl (zPan.f8 hR111.sh) ?_
          refine zT.aload_n 2 dX1_early_118 rfl rfl ?_
          refine zT.callV (M' := mX4_be) (b := (x + 14)) [zR p83] [] dX1_early_119 kX1_273 rfl rfl (ci := 3) (r := (RX4, TX4, 6)) rfl (zPlan.k (zPan.o8 hR111.sh)) (C_X4_be (zPan.o8 hR111.sh) hMd3.1 (by omega) (by omega) (by omega) (by omega)) (by decide) (k' := 2) (n' := 8) (by omega) (by omega) (by decide) (zdk (v := none) ?_) (fun _ _ _ _ h => h.elim)
          show zT G _ _ _ _ [] _ _ _ _ _ _
          obtain ⟨m6, em6⟩ : ∃ z, z = zbe m111_ (x + 14) p83 := ⟨_, rfl⟩
          rw [← em6]
          refine zT.iload_n 1 dX1_early_122 rfl rfl ?_
          refine zT.iret dX1_early_123 rfl ?_
          have e1 : uLay A = A := uLay_1 hB1
          have e2 : (uSnap A) 2 = A 2 := uSnap_r (by omega) (by omega)
          have e3 : eA (aK (A 0 1023) (A 2)) (A 2 58).toNat (uSnap A) 2 = B 2 := by rw [hB9]; exact eA_2 e2 _
          have e4 : eA (aK (A 0 1023) (A 2)) (A 2 58).toNat (uSnap A) 2 58 = A 2 58 := by rw [e3]; exact hBn
          refine ⟨by rw [hv], gn87.tr g111, ?_, ?_⟩
          · rw [if_neg (by omega), e1, em6]
            refine hR111.plan (by rw [uSnap_o (by omega)]; exact hB1) (fun a j ha => zbe_ne (by omega)) (eA_pl (by rw [e2]; omega) _ (by rw [e2]; omega)) ?_ ?_
            · rw [e4, e3]; exact hBv
            · rw [e4, e3]; exact zbe_pr hR111.pl.1 hMd3 (by omega)
          · rw [em6]
            exact fun a a0 a1 j => by rw [zbe_ne (by omega)]; exact (ho9.tr o111) a a0 a1 j
        · refine zT.iconst dX1_early_81 ?_
          refine zT.iret dX1_early_82 rfl ?_
          have e0 := eN_0 (K := (aK (A 0 1023) (A 2))) hpv (A 2 58).toNat (by omega) (by omega)
          rw [e0.1] at hQ
          exact ⟨by rw [← hv, show v = 0 by omega], zGr.rf, by rw [if_pos (by omega)]; exact hQ.lay, hoA⟩
      · have h58 : 0 < A 2 58 := by omega
        have hB1 : A 0 1023 = 1 := by
                  rcases hR.vbg with z | ⟨z, z2⟩
                  · exact z
                  · rw [z2] at h58
                    omega
        obtain ⟨B, hB9⟩ : ∃ z, z = eA (aK (A 0 1023) (A 2)) k.toNat A := ⟨_, rfl⟩
        rw [← hB9] at hQ hBn hBp
        have gv := hQ.vpl.2.2 k k0 (by omega)
        have ge := hQ.pl.2.2 k k0 (by omega)
        have hEl := fEl_b (K := aK (B 0 1023) (B 2)) (g := aGo (B 2) 58) (k := k) gv.2.2.2.2.1
        have hEK : fEl (aK (B 0 1023) (B 2)) (aGo (B 2) 58) k = fEl (aK (A 0 1023) (A 2)) (aGo (B 2) 58) k := fEl_K (fun j a b => (hBp.K rfl j a b).symm) ⟨gv.1, gv.2.1, gv.2.2.1, gv.2.2.2.1⟩
        refine zT.aload_n 0 dX1_early_26 rfl rfl ?_
        refine zT.getF dX1_early_27 fX1_73 rfl (zPan.k hQ.sh) (j := 8) (by decide) rfl (zPan.f8 hQ.sh) ?_
        refine zT.getF dX1_early_30 fX1_284 rfl (zPlan.k (zPan.o8 hQ.sh)) (j := 2) (by decide) rfl (zPlan.f302 (zPan.o8 hQ.sh)) ?_
        refine zT.iload_n 2 dX1_early_33 rfl rfl ?_
        refine zT.iald dX1_early_34 (zPlan.a302 (zPan.o8 hQ.sh)) (by first | assumption | exact zq_i _ | exact zand_i _ _ | exact zor_i _ _ | exact zxor_i _ _ | exact zN _ | omega) (by rw [(zPlan.n302 (zPan.o8 hQ.sh))]; first | assumption | exact zq_i _ | exact zand_i _ _ | exact zor_i _ _ | exact zxor_i _ _ | exact zN _ | omega) (fun z34 => ?_)
        rw [ge.2.2.1]
        show zT G _ _ _ _ [zI (aGo (B 2) 58 k 2)] _ _ _ _ _ _
        refine zT.istore_n 3 dX1_early_35 rfl (by decide) (zpre1 rfl (zcI _)) ?_
        show zT G _ _ _ [zR x, zI v, zI k, zI (aGo (B 2) 58 k 2)] _ _ _ _ _ _ _
        refine zT.aload_n 0 dX1_early_36 rfl rfl ?_
        refine zT.getF dX1_early_37 fX1_73 rfl (zPan.k hQ.sh) (j := 8) (by decide) rfl (zPan.f8 hQ.sh) ?_
        refine zT.getF dX1_early_40 fX1_284 rfl (zPlan.k (zPan.o8 hQ.sh)) (j := 2) (by decide) rfl (zPlan.f302 (zPan.o8 hQ.sh)) ?_
        refine zT.iload_n 2 dX1_early_43 rfl rfl ?_
        refine zT.aload_n 0 dX1_early_44 rfl rfl ?_
        refine zT.iload_n 2 dX1_early_45 rfl rfl ?_
        refine zT.callV (M' := mX1_earliest) (b := x) [zI k] [zI k, zR ((x + 14) + 3)] dX1_early_46 kX1_345 rfl rfl (ci := 0) (r := (RX1, TX1, 42)) rfl (zPan.k hQ.sh) (C_X1_earliest hQ k0 (by omega)) (by decide) (k' := 14) (n' := 4020) (by omega) (by omega) (by simp only [List.map, zcI, zcJ, zcR, List.sum_cons, List.sum_nil]; decide) (zdk (v := some (zI (fEl (aK (B 0 1023) (B 2)) (aGo (B 2) 58) k))) ?_) (fun _ _ _ _ h => h.elim)
        show zT G _ _ _ _ [zI (fEl (aK (B 0 1023) (B 2)) (aGo (B 2) 58) k), zI k, zR ((x + 14) + 3)] _ _ _ _ _ _
        obtain ⟨m7, em7⟩ : ∃ z, z = zup mA (x + 14 + 3) k (fEl (aK (B 0 1023) (B 2)) (aGo (B 2) 58) k) := ⟨_, rfl⟩
        rw [← em7]
        refine zT.iast dX1_early_49 (zPlan.a302 (zPan.o8 hQ.sh)) (by first | assumption | exact zq_i _ | exact zand_i _ _ | exact zor_i _ _ | exact zxor_i _ _ | exact zN _ | omega) (by rw [(zPlan.n302 (zPan.o8 hQ.sh))]; first | assumption | exact zq_i _ | exact zand_i _ _ | exact zor_i _ _ | exact zxor_i _ _ | exact zN _ | omega) (by first | assumption | exact zq_i _ | exact zand_i _ _ | exact zor_i _ _ | exact zxor_i _ _ | exact zN _ | omega) ?_
        obtain ⟨m8, em8⟩ : ∃ z, z = zup m7 ((x + 14) + 3) k (fEl (aK (B 0 1023) (B 2)) (aGo (B 2) 58) k) := ⟨_, rfl⟩
        rw [← em8]
        refine zT.iload_n 1 dX1_early_50 rfl rfl ?_
        refine zT.aload_n 0 dX1_early_51 rfl rfl ?_
        refine zT.getF dX1_early_52 fX1_73 rfl (zPan.k hQ.sh) (j := 8) (by decide) rfl (zPan.f8 hQ.sh) ?_
        refine zT.getF dX1_early_55 fX1_284 rfl (zPlan.k (zPan.o8 hQ.sh)) (j := 2) (by decide) rfl (zPlan.f302 (zPan.o8 hQ.sh)) ?_
        refine zT.iload_n 2 dX1_early_58 rfl rfl ?_
        refine zT.iald dX1_early_59 (zPlan.a302 (zPan.o8 hQ.sh)) (by first | assumption | exact zq_i _ | exact zand_i _ _ | exact zor_i _ _ | exact zxor_i _ _ | exact zN _ | omega) (by rw [(zPlan.n302 (zPan.o8 hQ.sh))]; first | assumption | exact zq_i _ | exact zand_i _ _ | exact zor_i _ _ | exact zxor_i _ _ | exact zN _ | omega) (fun z59 => ?_)
        have r59 : m8 ((x + 14) + 3) k = fEl (aK (B 0 1023) (B 2)) (aGo (B 2) 58) k := by rw [em8, zup_at]
        rw [r59] at z59 ⊢
        refine zT.iload_n 3 dX1_early_60 rfl rfl ?_
        refine zT.ic_ge (tgt := 68) dX1_early_61 (by decide) (by first | assumption | exact zq_i _ | exact zand_i _ _ | exact zor_i _ _ | exact zxor_i _ _ | exact zN _ | omega) (by first | assumption | exact zq_i _ | exact zand_i _ _ | exact zor_i _ _ | exact zxor_i _ _ | exact zN _ | omega) (fun c61 => ?_) (fun c61 => ?_)
        · refine zT.iconst dX1_early_68 ?_
          refine zT.iadd dX1_early_69 ?_
          refine zT.istore_n 1 dX1_early_70 rfl (by decide) (zpre1 rfl (zcR _)) ?_
          show zT G _ _ _ [zR x, zI (v + 0), zI k, zI (aGo (B 2) 58 k 2)] _ _ _ _ _ _ _
          refine zT.iinc 2 dX1_early_71 rfl (by decide) (zpre1 rfl (zcI _)) ?_
          show zT G _ _ _ [zR x, zI (v + 0), zI (k + 1), zI (aGo (B 2) 58 k 2)] _ _ _ _ _ _ _
          refine zT.goto (tgt := 15) dX1_early_74 (by decide) ?_
          refine zT.loc (V' := [zR x, zI (v + 0), zI (k + 1), zU]) ?_ ⟨Or.inr rfl, Or.inr rfl, Or.inr rfl, Or.inl rfl, trivial⟩
          exact ih15 _ _ _ (by
              have e9 : eA (aK (A 0 1023) (A 2)) (k + 1).toNat A = uMove B k (fEl (aK (B 0 1023) (B 2)) (aGo (B 2) 58) k) := by
                rw [show (k + 1).toNat = k.toNat + 1 by omega, hEK]
                show uMove (eA (aK (A 0 1023) (A 2)) k.toNat A) ((k.toNat : Nat) : Int) (fEl _ (aGo (eA (aK (A 0 1023) (A 2)) k.toNat A 2) 58) ((k.toNat : Nat) : Int)) = _
                rw [show ((k.toNat : Nat) : Int) = k by omega, ← hB9]
              rw [e9, em8, em7, zup_zup]
              exact hQ.move (by rw [hBp.bg]; exact hB1) k0 (by omega) (by omega)) (by
              rw [em8, em7, zup_zup]
              exact hoA.up (by omega)) (by
              rw [em8, em7, zup_zup]
              exact hC.fr zGr.rf (fun a a0 a1 j => zup_ne (by omega))) (by omega) (by omega) (by
              rw [show (k + 1).toNat = k.toNat + 1 by omega]
              show _ = eN (aK (A 0 1023) (A 2)) A k.toNat + zq (fEl (aK (A 0 1023) (A 2)) (aGo (eA (aK (A 0 1023) (A 2)) k.toNat A 2) 58) ((k.toNat : Nat) : Int) < aGo (eA (aK (A 0 1023) (A 2)) k.toNat A 2) 58 ((k.toNat : Nat) : Int) 2)
              rw [show ((k.toNat : Nat) : Int) = k by omega, ← hB9, ← hEK, ← hv]
              first
                | rw [zq_t (by omega)]
                | rw [zq_f (by omega)]) (by
              rw [em8, em7, zup_zup]
              exact fun a ha j => by rw [zup_ne (by omega)]; exact hf1 a ha j) (by omega)
        · refine zT.iconst dX1_early_64 ?_
          refine zT.goto (tgt := 69) dX1_early_65 (by decide) ?_
          refine zT.iadd dX1_early_69 ?_
          refine zT.istore_n 1 dX1_early_70 rfl (by decide) (zpre1 rfl (zcR _)) ?_
          show zT G _ _ _ [zR x, zI (v + 1), zI k, zI (aGo (B 2) 58 k 2)] _ _ _ _ _ _ _
          refine zT.iinc 2 dX1_early_71 rfl (by decide) (zpre1 rfl (zcI _)) ?_
          show zT G _ _ _ [zR x, zI (v + 1), zI (k + 1), zI (aGo (B 2) 58 k 2)] _ _ _ _ _ _ _
          refine zT.goto (tgt := 15) dX1_early_74 (by decide) ?_
          refine zT.loc (V' := [zR x, zI (v + 1), zI (k + 1), zU]) ?_ ⟨Or.inr rfl, Or.inr rfl, Or.inr rfl, Or.inl rfl, trivial⟩
          exact ih15 _ _ _ (by
              have e9 : eA (aK (A 0 1023) (A 2)) (k + 1).toNat A = uMove B k (fEl (aK (B 0 1023) (B 2)) (aGo (B 2) 58) k) := by
                rw [show (k + 1).toNat = k.toNat + 1 by omega, hEK]
                show uMove (eA (aK (A 0 1023) (A 2)) k.toNat A) ((k.toNat : Nat) : Int) (fEl _ (aGo (eA (aK (A 0 1023) (A 2)) k.toNat A 2) 58) ((k.toNat : Nat) : Int)) = _
                rw [show ((k.toNat : Nat) : Int) = k by omega, ← hB9]
              rw [e9, em8, em7, zup_zup]
              exact hQ.move (by rw [hBp.bg]; exact hB1) k0 (by omega) (by omega)) (by
              rw [em8, em7, zup_zup]
              exact hoA.up (by omega)) (by
              rw [em8, em7, zup_zup]
              exact hC.fr zGr.rf (fun a a0 a1 j => zup_ne (by omega))) (by omega) (by omega) (by
              rw [show (k + 1).toNat = k.toNat + 1 by omega]
              show _ = eN (aK (A 0 1023) (A 2)) A k.toNat + zq (fEl (aK (A 0 1023) (A 2)) (aGo (eA (aK (A 0 1023) (A 2)) k.toNat A 2) 58) ((k.toNat : Nat) : Int) < aGo (eA (aK (A 0 1023) (A 2)) k.toNat A 2) 58 ((k.toNat : Nat) : Int) 2)
              rw [show ((k.toNat : Nat) : Int) = k by omega, ← hB9, ← hEK, ← hv]
              first
                | rw [zq_t (by omega)]
                | rw [zq_f (by omega)]) (by
              rw [em8, em7, zup_zup]
              exact fun a ha j => by rw [zup_ne (by omega)]; exact hf1 a ha j) (by omega)
  exact L15 _ _ _ _ (by exact hQ0) (by exact ho0) (by exact hC0) (by omega) (by omega) (by rfl) (by exact fun a ha j => by rw [em1]; exact zbe_ne (by omega)) (Nat.lt_succ_self _)

