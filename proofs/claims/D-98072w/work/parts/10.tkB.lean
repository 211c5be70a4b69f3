/-! SLOTS APART; WHAT A CHANGE OF ONE CELL LEAVES -/
theorem z_apF {args : Array Value} {s : State} {C O f d O' f' d' : String} {cf fi cf' fi' : Nat} {kf kf' : Class} {fd fd' : Field} (h : (Cond.laysFinal C O f d).before args s = true) (h' : (Cond.laysFinal C O' f' d').before args s = true)
    (hi : s.fieldFound? O f d = some (cf, kf, fi, fd)) (hi' : s.fieldFound? O' f' d' = some (cf', kf', fi', fd')) (hO : O ≠ O') : fd.slot ≠ fd'.slot := by
  obtain ⟨c, k, c1, k1, i1, f1, a1, a2, a3, a4, a5, a6, a7, a8, d1, a9, a10, a11, a12⟩ := Cond.laysFinal_spec h
  obtain ⟨c', k', c1', k1', i1', f1', b1, b2, b3, b4, b5, b6, b7, b8, d1', b9, b10, b11, b12⟩ := Cond.laysFinal_spec h'
  cases a1.symm.trans b1
  cases hi.symm.trans a3
  cases hi'.symm.trans b3
  intro hs
  rw [hs] at a9
  cases a9.symm.trans b9
  obtain ⟨x, hx1, hx2⟩ := Vm.findClass_spec a7
  obtain ⟨y, hy1, hy2⟩ := Vm.findClass_spec b7
  have e1 := State.fieldFound?_class a3
  have e2 := State.fieldFound?_class b3
  cases hx1.symm.trans e1
  cases hy1.symm.trans e2
  exact hO (by rw [← hx2, ← hy2, ← a10, ← b10])
theorem zapT : ∀ i : Fin 16, ∀ a b : Fin 64, a.val < zN i.val → b.val < zN i.val → a ≠ b → (zfo (zid i.val a.val)).2.1 ≠ (zfo (zid i.val b.val)).2.1 ∨ ((zfo (zid i.val a.val)).1 ≠ (zfo (zid i.val b.val)).1 ∧ (zfo (zid i.val a.val)).2.2.2 = true ∧ (zfo (zid i.val b.val)).2.2.2 = true) := by decide +kernel
theorem zap {G : zG} (h : zOK G) {ci : Nat} {r : vw_C} (hr : zcl[ci]? = some r) : ∀ x y, x < r.2.2 → y < r.2.2 → x ≠ y → (gD G).2 ci x ≠ (gD G).2 ci y := by
  intro x y hx hy hne
  obtain ⟨hts, hK, -⟩ := h
  have hin : ∀ w ∈ u_ws r.1 r.2.1 r.2.2, w ∈ lw_tbl := fun w hw => lw_all_tbl (zcl_in hr w hw)
  obtain ⟨ty, hty⟩ := zcl_ty hr
  obtain ⟨hS, -⟩ := hK.1 ci _ hr
  obtain ⟨_, _, _, fa, hia, ea⟩ := hS x hx
  obtain ⟨_, _, _, fb, hib, eb⟩ := hS y hy
  rw [← ea, ← eb]
  have hl := zcl_len hr
  have hx' := hx
  have hy' := hy
  rw [zcl_N hr] at hx' hy'
  have hx64 : x < 64 := Nat.lt_of_lt_of_le hx' (by have : ∀ i : Fin 16, zN i.val ≤ 64 := by decide +kernel
                                                   exact this ⟨ci, hl⟩)
  have hy64 : y < 64 := Nat.lt_of_lt_of_le hy' (by have : ∀ i : Fin 16, zN i.val ≤ 64 := by decide +kernel
                                                   exact this ⟨ci, hl⟩)
  have hT := zapT ⟨ci, hl⟩ ⟨x, hx64⟩ ⟨y, hy64⟩ hx' hy' (fun q => hne (congrArg Fin.val q))
  simp only at hT
  rw [← zcl_fo hr hx, ← zcl_fo hr hy] at hT
  rcases hT with hT | ⟨hT, h1, h2⟩
  · refine u_apart (u_lays hts hin hx) (u_lays hts hin hy) hia hib ?_
    rw [(State.fieldFound?_type hia (hty x hx)).1, (State.fieldFound?_type hib (hty y hy)).1]
    exact hT
  · have g1 := hts _ (hin _ (u_in_lay hx))
    have g2 := hts _ (hin _ (u_in_lay hy))
    unfold u_lay at g1 g2
    rw [if_pos h1] at g1
    rw [if_pos h2] at g2
    exact z_apF g1 g2 hia hib hT
/-- one object changes -/
theorem zRep.obj {G : zG} {S S' : zS} {m m' : zMm} {H H' : Heap} (h : zRep G S m H) {q ci : Nat} {r : vw_C} (hk : zk S q = ci + 1) (hr : zcl[ci]? = some r)
    (hS : zx S' = zx S ∧ (∀ b, zk S' b = zk S b) ∧ ∀ b, zn S' b = zn S b) (hm : ∀ b : Int, b ≠ q → (∀ i, zf S' b i = zf S b i) ∧ ∀ j, m' b j = m b j)
    (hw : ∀ i, zwf (ci + 1) i (m' q i)) (e2 : H'.size = H.size) (e3 : ∀ x : Nat, x ≠ q → H'[x]? = H[x]?) (hO : t_OB q ((gD G).1 ci) r.2.2 ((gD G).2 ci) H' (fun k => zfv S' m' q (zid ci k))) : zRep G S' m' H' := by
  obtain ⟨h1, h2, h3, h4, h5⟩ := h
  obtain ⟨s1, s2, s3⟩ := hS
  refine ⟨by rw [s1, e2]; exact h1, fun a ha => by rw [s1]; exact h2 a (by rw [← s2]; exact ha), ?_, ?_, ?_⟩
  · intro q' ci' r' hk' hr'
    rw [s2] at hk'
    by_cases hq : q' = q
    · subst hq
      have e : ci' = ci := by omega
      subst e
      cases hr.symm.trans hr'
      exact hO
    · have hq2 : (q' : Int) ≠ (q : Int) := fun z => hq (by omega)
      obtain ⟨m1, m2⟩ := hm q' hq2
      refine ((h3 q' ci' r' hk' hr').kept (e3 q' hq)).to (fun k _ => ?_)
      unfold zfv
      rw [m2, m1]
  · intro q' hk'
    rw [s2] at hk' ⊢
    rw [s3]
    have hq : q' ≠ q := by
      intro z
      subst z
      have := zcl_len hr
      omega
    have hq2 : (q' : Int) ≠ (q : Int) := fun z => hq (by omega)
    obtain ⟨g1, g2, g3⟩ := h4 q' hk'
    refine ⟨g1, g2, ?_⟩
    rw [e3 q' hq, g3]
    congr 2
    funext j
    rw [(hm q' hq2).2]
  · intro a i ha
    rw [s2] at ha ⊢
    by_cases hq : a = q
    · rw [hq, hk]
      exact hw i
    · rw [(hm a hq).2]
      exact h5 a i ha
/-- one array changes -/
theorem zRep.arr {G : zG} {S : zS} {m m' : zMm} {H H' : Heap} (h : zRep G S m H) {q : Nat} (hk : 100 < zk S q)
    (hm : ∀ b : Int, b ≠ q → ∀ j, m' b j = m b j) (hw : ∀ i, zwf (zk S q) i (m' q i)) (e2 : H'.size = H.size) (e3 : ∀ x : Nat, x ≠ q → H'[x]? = H[x]?)
    (hO : H'[q]? = some (arrV (gA G (zk S q)) (zn S q).toNat (fun j => zav (zk S q) (m' q j)))) : zRep G S m' H' := by
  obtain ⟨h1, h2, h3, h4, h5⟩ := h
  refine ⟨by rw [e2]; exact h1, h2, ?_, ?_, ?_⟩
  · intro q' ci' r' hk' hr'
    have hq : q' ≠ q := by
      intro z
      subst z
      have := zcl_len hr'
      omega
    have hq2 : (q' : Int) ≠ (q : Int) := fun z => hq (by omega)
    refine ((h3 q' ci' r' hk' hr').kept (e3 q' hq)).to (fun k _ => ?_)
    unfold zfv
    rw [hm q' hq2]
  · intro q' hk'
    obtain ⟨g1, g2, g3⟩ := h4 q' hk'
    refine ⟨g1, g2, ?_⟩
    by_cases hq : q' = q
    · subst hq
      exact hO
    · have hq2 : (q' : Int) ≠ (q : Int) := fun z => hq (by omega)
      rw [e3 q' hq, g3]
      congr 2
      funext j
      rw [hm q' hq2]
  · intro a i ha
    by_cases hq : a = q
    · rw [hq]
      exact hw i
    · rw [hm a hq]
      exact h5 a i ha
theorem zwf0 (κ : Nat) (i : Int) : zwf κ i (zdf κ i) := by
  unfold zwf zdf
  split
  · rw [if_neg (by omega)]; omega
  split
  · rw [if_neg (by omega)]; omega
  split
  · rw [if_neg (by omega)]; omega
  split
  · rw [if_neg (by omega)]; omega
  split
  · trivial
  split
  · split <;> omega
  split
  · split <;> omega
  · trivial
/-- a cell comes -/
theorem zRep.new {G : zG} {S : zS} {m : zMm} {H H' : Heap} (h : zRep G S m H) {κ : Nat} {n : Int} (hgz : gz G ≤ H.size) (e2 : H'.size = H.size + 1) (e3 : ∀ x : Nat, x < H.size → H'[x]? = H[x]?)
    (hob : ∀ (ci : Nat) (r : vw_C), κ = ci + 1 → zcl[ci]? = some r → t_OB H.size ((gD G).1 ci) r.2.2 ((gD G).2 ci) H' (fun k => zfv (zal S κ n) (znw m κ (zx S)) H.size (zid ci k)))
    (har : 100 < κ → 0 ≤ n ∧ n < 2147483648 ∧ H'[H.size]? = some (arrV (gA G κ) n.toNat (fun j => zav κ (zdf κ j)))) : zRep G (zal S κ n) (znw m κ (zx S)) H' := by
  obtain ⟨h1, h2, h3, h4, h5⟩ := h
  have hx' : zx (zal S κ n) = zx S + 1 := rfl
  have hk1 : ∀ b, zk (zal S κ n) b = if b = zx S then κ else zk S b := fun b => rfl
  have hn1 : ∀ b, zn (zal S κ n) b = if b = zx S then n else zn S b := fun b => rfl
  have hf1 : ∀ b i, zf (zal S κ n) b i = if b = zx S then -1 else zf S b i := fun b i => rfl
  refine ⟨by rw [hx', e2, h1]; omega, ?_, ?_, ?_, ?_⟩
  · intro a ha
    rw [hk1] at ha
    rw [hx']
    by_cases hq : a = zx S
    · rw [hq, h1]; omega
    · rw [if_neg hq] at ha
      have := h2 a ha
      omega
  · intro q ci r hk hr
    rw [hk1] at hk
    by_cases hq : (q : Int) = zx S
    · have hq' : q = H.size := by omega
      rw [if_pos hq] at hk
      subst hq'
      exact hob ci r hk hr
    · rw [if_neg hq] at hk
      have hl := h2 q (by rw [hk]; omega)
      refine ((h3 q ci r hk hr).kept (e3 q (by omega))).to (fun k _ => ?_)
      unfold zfv
      rw [hf1, if_neg hq]
      show _ = (match zty (zid ci k) with
        | 0 => zI (if (q : Int) = zx S then zdf κ (zid ci k) else m q (zid ci k))
        | 1 => zJ (if (q : Int) = zx S then zdf κ (zid ci k) else m q (zid ci k))
        | 2 => zR (if (q : Int) = zx S then zdf κ (zid ci k) else m q (zid ci k))
        | _ => zR (zf S q (zid ci k)))
      rw [if_neg hq]
      rfl
  · intro q hk
    rw [hk1] at hk
    rw [hk1, hn1]
    by_cases hq : (q : Int) = zx S
    · have hq' : q = H.size := by omega
      rw [if_pos hq] at hk ⊢
      rw [if_pos hq]
      obtain ⟨g1, g2, g3⟩ := har hk
      refine ⟨g1, g2, ?_⟩
      rw [hq', g3]
      congr 2
      funext j
      show _ = zav κ (if ((H.size : Nat) : Int) = zx S then zdf κ j else m (H.size : Nat) j)
      rw [if_pos h1.symm]
    · rw [if_neg hq] at hk ⊢
      rw [if_neg hq]
      have hl := h2 q (by omega)
      obtain ⟨g1, g2, g3⟩ := h4 q hk
      refine ⟨g1, g2, ?_⟩
      rw [e3 q (by omega), g3]
      congr 2
      funext j
      show _ = zav _ (if (q : Int) = zx S then zdf κ j else m q j)
      rw [if_neg hq]
  · intro a i ha
    rw [hk1] at ha ⊢
    by_cases hq : a = zx S
    · rw [if_pos hq]
      show zwf κ i (if a = zx S then zdf κ i else m a i)
      rw [if_pos hq]
      exact zwf0 κ i
    · rw [if_neg hq] at ha ⊢
      show zwf _ i (if a = zx S then zdf κ i else m a i)
      rw [if_neg hq]
      exact h5 a i ha
