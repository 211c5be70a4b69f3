/-! ONE OF THE THINGS TOLD CHANGES (written by gen/mk_set.py) -/
theorem rel.set_no {S S2 : zS} {m m2 : zMm} {x : Int} {A A2 : zMm} (h : rel S m x A) (hS : zGr S S2)
    (hm : ∀ k j, 0 ≤ k → k < 54 → rIn k j → ¬ (k < 0) → m2 (x + k) j = m (x + k) j) (far : zFar S x m m2) (hA : ∀ o j, ¬ (o < 0) → A2 o j = A o j) (hc : True) : rel S2 m2 x A2 := by
  have hf : zFar S x m m2 := far
  have hcc : ∀ a, 12 ≤ zk S a → zk S a ≤ 16 → ∀ j, m2 a j = m a j := fun a h1 h2 j => hf a (h.wd.2 a h1 h2) (zOld.c h1 h2) j
  have h0 : ∀ j, (j = 1 ∨ j = 7 ∨ j = 12 ∨ j = 13 ∨ j = 15 ∨ j = 17 ∨ j = 30 ∨ j = 32 ∨ j = 35 ∨ j = 38) → ¬ ((0 : Int) < 0) → m2 x j = m x j := fun j h1 h2 => by have q := hm 0 j (by omega) (by omega) (rIn_0 h1) h2; rw [Int.add_zero] at q; exact q
  have e1 : A2 1 = A 1 := funext fun j => hA 1 j (by omega)
  have e2 : A2 2 = A 2 := funext fun j => hA 2 j (by omega)
  have e4 : A2 4 = A 4 := funext fun j => hA 4 j (by omega)
  have e5 : A2 5 = A 5 := funext fun j => hA 5 j (by omega)
  have e6 : A2 6 = A 6 := funext fun j => hA 6 j (by omega)
  have e8 : A2 8 = A 8 := funext fun j => hA 8 j (by omega)
  have e9 : A2 9 = A 9 := funext fun j => hA 9 j (by omega)
  have e11 : A2 11 = A 11 := funext fun j => hA 11 j (by omega)
  have e29 : A2 29 = A 29 := funext fun j => hA 29 j (by omega)
  have e32 : A2 32 = A 32 := funext fun j => hA 32 j (by omega)
  have s1002 : A2 0 1002 = A 0 1002 := hA 0 1002 (by omega)
  have s1010 : A2 0 1010 = A 0 1010 := hA 0 1010 (by omega)
  have s1022 : A2 0 1022 = A 0 1022 := hA 0 1022 (by omega)
  have s1023 : A2 0 1023 = A 0 1023 := hA 0 1023 (by omega)
  have s1026 : A2 0 1026 = A 0 1026 := hA 0 1026 (by omega)
  have s1029 : A2 0 1029 = A 0 1029 := hA 0 1029 (by omega)
  have s1049 : A2 0 1049 = A 0 1049 := hA 0 1049 (by omega)
  have s1053 : A2 0 1053 = A 0 1053 := hA 0 1053 (by omega)
  exact ⟨h.wd.gr hS,
    h.sh.gr hS,
    (by rw [s1002, e1]; exact h.tp.fr (h0 1 (by decide) (by decide)) (fun j => hm 1 j (by decide) (by decide) rIn_1 (by omega))),
    (by rw [s1023, e2, e6]; exact h.ki.fr2 hS (h0 7 (by decide) (by decide)) (fun a h1 h2 j => by have q := hm (a - x) j (by omega) (by omega) (rIn_a ⟨by omega, by omega⟩) (by omega); rw [show x + (a - x) = a by omega] at q; exact q) hf),
    (by rw [e2]; exact h.pl.fr hS (fun a h1 h2 j => by have q := hm (a - x) j (by omega) (by omega) (rIn_a ⟨by omega, by omega⟩) (by omega); rw [show x + (a - x) = a by omega] at q; exact q)),
    (by rw [s1022, e5]; exact h.un.fr hS (h0 17 (by decide) (by decide)) (fun j => hm 29 j (by decide) (by decide) rIn_29 (by omega)) hf),
    (by rw [e9, e4, e8]; exact h.im.fr hS (fun a h1 h2 j => by have q := hm (a - x) j (by omega) (by omega) (rIn_a ⟨by omega, by omega⟩) (by omega); rw [show x + (a - x) = a by omega] at q; exact q) (fun j => hm 51 j (by decide) (by decide) (rIn_5 (by decide)) (by omega)) (fun j => hm 52 j (by decide) (by decide) (rIn_5 (by decide)) (by omega)) (fun j => hm 53 j (by decide) (by decide) (rIn_5 (by decide)) (by omega)) (fun j => hm 29 j (by decide) (by decide) rIn_29 (by omega)) hf hcc),
    (by rw [e2]; exact h.se.fr hS (h0 38 (by decide) (by decide)) hcc),
    (by rw [s1029, e11]; exact h.tx.fr (h0 15 (by decide) (by decide)) (fun j => hm 28 j (by decide) (by decide) rIn_28 (by omega))),
    (by rw [s1049, e29]; exact h.sv.fr (h0 32 (by decide) (by decide)) (fun j => hm 45 j (by decide) (by decide) rIn_45 (by omega))),
    (by rw [s1053, e32]; exact h.pn.fr (h0 35 (by decide) (by decide)) (fun j => hm 46 j (by decide) (by decide) rIn_46 (by omega))),
    (by rw [s1010]; exact (h0 12 (by decide) (by decide)).trans h.fa),
    (by rw [s1026]; exact (h0 13 (by decide) (by decide)).trans h.wy),
    h.mo.fr hS (h0 30 (by decide) (by decide)),
    h.cs.fr (hm 26 400 (by decide) (by decide) (rIn_4 (by decide)) (by omega)) (hm 27 400 (by decide) (by decide) (rIn_4 (by decide)) (by omega)) (hm 48 400 (by decide) (by decide) (rIn_4 (by decide)) (by omega)) (fun j => hm 35 j (by decide) (by decide) rIn_35 (by omega)),
    ⟨(by rw [s1002, e1]; exact h.vtp),
    (by rw [s1023, e2]; exact h.vbg),
    (by rw [s1023, e2, e6]; exact h.vki),
    (by rw [e2]; exact h.vpl),
    (by rw [s1022, e5]; exact h.vun),
    (by rw [e9, e4, e8]; exact h.vim),
    (by rw [s1029, e11]; exact h.vtx),
    (by rw [s1049]; exact h.vsv),
    (by rw [s1053]; exact h.vpn)⟩⟩
theorem rel.set_tp {S S2 : zS} {m m2 : zMm} {x : Int} {A A2 : zMm} (h : rel S m x A) (hS : zGr S S2)
    (hm : ∀ k j, 0 ≤ k → k < 54 → rIn k j → ¬ (k = 1 ∨ (k = 0 ∧ j = 1)) → m2 (x + k) j = m (x + k) j) (far : zFar S x m m2) (hA : ∀ o j, ¬ (o = 1 ∨ (o = 0 ∧ j = 1002)) → A2 o j = A o j) (hv : vTp (A2 0 1002) (A2 1)) (hc : rTp m2 x (A2 0 1002) (A2 1)) : rel S2 m2 x A2 := by
  have hf : zFar S x m m2 := far
  have hcc : ∀ a, 12 ≤ zk S a → zk S a ≤ 16 → ∀ j, m2 a j = m a j := fun a h1 h2 j => hf a (h.wd.2 a h1 h2) (zOld.c h1 h2) j
  have h0 : ∀ j, (j = 1 ∨ j = 7 ∨ j = 12 ∨ j = 13 ∨ j = 15 ∨ j = 17 ∨ j = 30 ∨ j = 32 ∨ j = 35 ∨ j = 38) → ¬ ((0 : Int) = 1 ∨ ((0 : Int) = 0 ∧ j = 1)) → m2 x j = m x j := fun j h1 h2 => by have q := hm 0 j (by omega) (by omega) (rIn_0 h1) h2; rw [Int.add_zero] at q; exact q
  have e2 : A2 2 = A 2 := funext fun j => hA 2 j (by omega)
  have e4 : A2 4 = A 4 := funext fun j => hA 4 j (by omega)
  have e5 : A2 5 = A 5 := funext fun j => hA 5 j (by omega)
  have e6 : A2 6 = A 6 := funext fun j => hA 6 j (by omega)
  have e8 : A2 8 = A 8 := funext fun j => hA 8 j (by omega)
  have e9 : A2 9 = A 9 := funext fun j => hA 9 j (by omega)
  have e11 : A2 11 = A 11 := funext fun j => hA 11 j (by omega)
  have e29 : A2 29 = A 29 := funext fun j => hA 29 j (by omega)
  have e32 : A2 32 = A 32 := funext fun j => hA 32 j (by omega)
  have s1010 : A2 0 1010 = A 0 1010 := hA 0 1010 (by omega)
  have s1022 : A2 0 1022 = A 0 1022 := hA 0 1022 (by omega)
  have s1023 : A2 0 1023 = A 0 1023 := hA 0 1023 (by omega)
  have s1026 : A2 0 1026 = A 0 1026 := hA 0 1026 (by omega)
  have s1029 : A2 0 1029 = A 0 1029 := hA 0 1029 (by omega)
  have s1049 : A2 0 1049 = A 0 1049 := hA 0 1049 (by omega)
  have s1053 : A2 0 1053 = A 0 1053 := hA 0 1053 (by omega)
  exact ⟨h.wd.gr hS,
    h.sh.gr hS,
    hc,
    (by rw [s1023, e2, e6]; exact h.ki.fr2 hS (h0 7 (by decide) (by decide)) (fun a h1 h2 j => by have q := hm (a - x) j (by omega) (by omega) (rIn_a ⟨by omega, by omega⟩) (by omega); rw [show x + (a - x) = a by omega] at q; exact q) hf),
    (by rw [e2]; exact h.pl.fr hS (fun a h1 h2 j => by have q := hm (a - x) j (by omega) (by omega) (rIn_a ⟨by omega, by omega⟩) (by omega); rw [show x + (a - x) = a by omega] at q; exact q)),
    (by rw [s1022, e5]; exact h.un.fr hS (h0 17 (by decide) (by decide)) (fun j => hm 29 j (by decide) (by decide) rIn_29 (by omega)) hf),
    (by rw [e9, e4, e8]; exact h.im.fr hS (fun a h1 h2 j => by have q := hm (a - x) j (by omega) (by omega) (rIn_a ⟨by omega, by omega⟩) (by omega); rw [show x + (a - x) = a by omega] at q; exact q) (fun j => hm 51 j (by decide) (by decide) (rIn_5 (by decide)) (by omega)) (fun j => hm 52 j (by decide) (by decide) (rIn_5 (by decide)) (by omega)) (fun j => hm 53 j (by decide) (by decide) (rIn_5 (by decide)) (by omega)) (fun j => hm 29 j (by decide) (by decide) rIn_29 (by omega)) hf hcc),
    (by rw [e2]; exact h.se.fr hS (h0 38 (by decide) (by decide)) hcc),
    (by rw [s1029, e11]; exact h.tx.fr (h0 15 (by decide) (by decide)) (fun j => hm 28 j (by decide) (by decide) rIn_28 (by omega))),
    (by rw [s1049, e29]; exact h.sv.fr (h0 32 (by decide) (by decide)) (fun j => hm 45 j (by decide) (by decide) rIn_45 (by omega))),
    (by rw [s1053, e32]; exact h.pn.fr (h0 35 (by decide) (by decide)) (fun j => hm 46 j (by decide) (by decide) rIn_46 (by omega))),
    (by rw [s1010]; exact (h0 12 (by decide) (by decide)).trans h.fa),
    (by rw [s1026]; exact (h0 13 (by decide) (by decide)).trans h.wy),
    h.mo.fr hS (h0 30 (by decide) (by decide)),
    h.cs.fr (hm 26 400 (by decide) (by decide) (rIn_4 (by decide)) (by omega)) (hm 27 400 (by decide) (by decide) (rIn_4 (by decide)) (by omega)) (hm 48 400 (by decide) (by decide) (rIn_4 (by decide)) (by omega)) (fun j => hm 35 j (by decide) (by decide) rIn_35 (by omega)),
    ⟨hv,
    (by rw [s1023, e2]; exact h.vbg),
    (by rw [s1023, e2, e6]; exact h.vki),
    (by rw [e2]; exact h.vpl),
    (by rw [s1022, e5]; exact h.vun),
    (by rw [e9, e4, e8]; exact h.vim),
    (by rw [s1029, e11]; exact h.vtx),
    (by rw [s1049]; exact h.vsv),
    (by rw [s1053]; exact h.vpn)⟩⟩
theorem rel.set_ki {S S2 : zS} {m m2 : zMm} {x : Int} {A A2 : zMm} (h : rel S m x A) (hS : zGr S S2)
    (hm : ∀ k j, 0 ≤ k → k < 54 → rIn k j → ¬ (k = 0 ∧ j = 7) → m2 (x + k) j = m (x + k) j) (far : zFar S x m m2) (hA : ∀ o j, ¬ ((o = 2 ∧ j < 58) ∨ o = 6 ∨ (o = 0 ∧ j = 1023)) → A2 o j = A o j) (hv : vBg (A2 0 1023) (A2 2) ∧ vKi (aK (A2 0 1023) (A2 2)) (A2 6)) (hc : rKi S2 m2 x (aK (A2 0 1023) (A2 2)) (A2 6)) : rel S2 m2 x A2 := by
  have hf : zFar S x m m2 := far
  have hcc : ∀ a, 12 ≤ zk S a → zk S a ≤ 16 → ∀ j, m2 a j = m a j := fun a h1 h2 j => hf a (h.wd.2 a h1 h2) (zOld.c h1 h2) j
  have h0 : ∀ j, (j = 1 ∨ j = 7 ∨ j = 12 ∨ j = 13 ∨ j = 15 ∨ j = 17 ∨ j = 30 ∨ j = 32 ∨ j = 35 ∨ j = 38) → ¬ ((0 : Int) = 0 ∧ j = 7) → m2 x j = m x j := fun j h1 h2 => by have q := hm 0 j (by omega) (by omega) (rIn_0 h1) h2; rw [Int.add_zero] at q; exact q
  have e1 : A2 1 = A 1 := funext fun j => hA 1 j (by omega)
  have e4 : A2 4 = A 4 := funext fun j => hA 4 j (by omega)
  have e5 : A2 5 = A 5 := funext fun j => hA 5 j (by omega)
  have e8 : A2 8 = A 8 := funext fun j => hA 8 j (by omega)
  have e9 : A2 9 = A 9 := funext fun j => hA 9 j (by omega)
  have e11 : A2 11 = A 11 := funext fun j => hA 11 j (by omega)
  have e29 : A2 29 = A 29 := funext fun j => hA 29 j (by omega)
  have e32 : A2 32 = A 32 := funext fun j => hA 32 j (by omega)
  have s1002 : A2 0 1002 = A 0 1002 := hA 0 1002 (by omega)
  have s1010 : A2 0 1010 = A 0 1010 := hA 0 1010 (by omega)
  have s1022 : A2 0 1022 = A 0 1022 := hA 0 1022 (by omega)
  have s1026 : A2 0 1026 = A 0 1026 := hA 0 1026 (by omega)
  have s1029 : A2 0 1029 = A 0 1029 := hA 0 1029 (by omega)
  have s1049 : A2 0 1049 = A 0 1049 := hA 0 1049 (by omega)
  have s1053 : A2 0 1053 = A 0 1053 := hA 0 1053 (by omega)
  exact ⟨h.wd.gr hS,
    h.sh.gr hS,
    (by rw [s1002, e1]; exact h.tp.fr (h0 1 (by decide) (by decide)) (fun j => hm 1 j (by decide) (by decide) rIn_1 (by omega))),
    hc,
    ((h.pl.fr hS (fun a h1 h2 j => by have q := hm (a - x) j (by omega) (by omega) (rIn_a ⟨by omega, by omega⟩) (by omega); rw [show x + (a - x) = a by omega] at q; exact q)).rc (fun j j0 j1 => hA 2 j (by have := h.vpl.2.1; omega)) h.vpl.1),
    (by rw [s1022, e5]; exact h.un.fr hS (h0 17 (by decide) (by decide)) (fun j => hm 29 j (by decide) (by decide) rIn_29 (by omega)) hf),
    (by rw [e9, e4, e8]; exact h.im.fr hS (fun a h1 h2 j => by have q := hm (a - x) j (by omega) (by omega) (rIn_a ⟨by omega, by omega⟩) (by omega); rw [show x + (a - x) = a by omega] at q; exact q) (fun j => hm 51 j (by decide) (by decide) (rIn_5 (by decide)) (by omega)) (fun j => hm 52 j (by decide) (by decide) (rIn_5 (by decide)) (by omega)) (fun j => hm 53 j (by decide) (by decide) (rIn_5 (by decide)) (by omega)) (fun j => hm 29 j (by decide) (by decide) rIn_29 (by omega)) hf hcc),
    ((h.se.fr hS (h0 38 (by decide) (by decide)) hcc).rc (fun j j0 j1 => hA 2 j (by omega))),
    (by rw [s1029, e11]; exact h.tx.fr (h0 15 (by decide) (by decide)) (fun j => hm 28 j (by decide) (by decide) rIn_28 (by omega))),
    (by rw [s1049, e29]; exact h.sv.fr (h0 32 (by decide) (by decide)) (fun j => hm 45 j (by decide) (by decide) rIn_45 (by omega))),
    (by rw [s1053, e32]; exact h.pn.fr (h0 35 (by decide) (by decide)) (fun j => hm 46 j (by decide) (by decide) rIn_46 (by omega))),
    (by rw [s1010]; exact (h0 12 (by decide) (by decide)).trans h.fa),
    (by rw [s1026]; exact (h0 13 (by decide) (by decide)).trans h.wy),
    h.mo.fr hS (h0 30 (by decide) (by decide)),
    h.cs.fr (hm 26 400 (by decide) (by decide) (rIn_4 (by decide)) (by omega)) (hm 27 400 (by decide) (by decide) (rIn_4 (by decide)) (by omega)) (hm 48 400 (by decide) (by decide) (rIn_4 (by decide)) (by omega)) (fun j => hm 35 j (by decide) (by decide) rIn_35 (by omega)),
    ⟨(by rw [s1002, e1]; exact h.vtp),
    hv.1,
    hv.2,
    h.vpl.rc (fun j j0 j1 => hA 2 j (by have := h.vpl.2.1; omega)),
    (by rw [s1022, e5]; exact h.vun),
    (by rw [e9, e4, e8]; exact h.vim),
    (by rw [s1029, e11]; exact h.vtx),
    (by rw [s1049]; exact h.vsv),
    (by rw [s1053]; exact h.vpn)⟩⟩
theorem rel.set_pl {S S2 : zS} {m m2 : zMm} {x : Int} {A A2 : zMm} (h : rel S m x A) (hS : zGr S S2)
    (hm : ∀ k j, 0 ≤ k → k < 54 → rIn k j → ¬ (14 ≤ k ∧ k < 20) → m2 (x + k) j = m (x + k) j) (far : zFar S x m m2) (hA : ∀ o j, ¬ (o = 2 ∧ 58 ≤ j ∧ j < 2059) → A2 o j = A o j) (hv : vBg (A2 0 1023) (A2 2) ∧ vPl (A2 2)) (hc : rPl S2 m2 x (A2 2)) : rel S2 m2 x A2 := by
  have hf : zFar S x m m2 := far
  have hcc : ∀ a, 12 ≤ zk S a → zk S a ≤ 16 → ∀ j, m2 a j = m a j := fun a h1 h2 j => hf a (h.wd.2 a h1 h2) (zOld.c h1 h2) j
  have h0 : ∀ j, (j = 1 ∨ j = 7 ∨ j = 12 ∨ j = 13 ∨ j = 15 ∨ j = 17 ∨ j = 30 ∨ j = 32 ∨ j = 35 ∨ j = 38) → ¬ (14 ≤ (0 : Int) ∧ (0 : Int) < 20) → m2 x j = m x j := fun j h1 h2 => by have q := hm 0 j (by omega) (by omega) (rIn_0 h1) h2; rw [Int.add_zero] at q; exact q
  have e1 : A2 1 = A 1 := funext fun j => hA 1 j (by omega)
  have e4 : A2 4 = A 4 := funext fun j => hA 4 j (by omega)
  have e5 : A2 5 = A 5 := funext fun j => hA 5 j (by omega)
  have e6 : A2 6 = A 6 := funext fun j => hA 6 j (by omega)
  have e8 : A2 8 = A 8 := funext fun j => hA 8 j (by omega)
  have e9 : A2 9 = A 9 := funext fun j => hA 9 j (by omega)
  have e11 : A2 11 = A 11 := funext fun j => hA 11 j (by omega)
  have e29 : A2 29 = A 29 := funext fun j => hA 29 j (by omega)
  have e32 : A2 32 = A 32 := funext fun j => hA 32 j (by omega)
  have s1002 : A2 0 1002 = A 0 1002 := hA 0 1002 (by omega)
  have s1010 : A2 0 1010 = A 0 1010 := hA 0 1010 (by omega)
  have s1022 : A2 0 1022 = A 0 1022 := hA 0 1022 (by omega)
  have s1023 : A2 0 1023 = A 0 1023 := hA 0 1023 (by omega)
  have s1026 : A2 0 1026 = A 0 1026 := hA 0 1026 (by omega)
  have s1029 : A2 0 1029 = A 0 1029 := hA 0 1029 (by omega)
  have s1049 : A2 0 1049 = A 0 1049 := hA 0 1049 (by omega)
  have s1053 : A2 0 1053 = A 0 1053 := hA 0 1053 (by omega)
  exact ⟨h.wd.gr hS,
    h.sh.gr hS,
    (by rw [s1002, e1]; exact h.tp.fr (h0 1 (by decide) (by decide)) (fun j => hm 1 j (by decide) (by decide) rIn_1 (by omega))),
    ((h.ki.fr2 hS (h0 7 (by decide) (by decide)) (fun a h1 h2 j => by have q := hm (a - x) j (by omega) (by omega) (rIn_a ⟨by omega, by omega⟩) (by omega); rw [show x + (a - x) = a by omega] at q; exact q) hf).kc (fun j j0 j1 => by unfold aK; rw [hA 2 j (by omega), s1023]) (fun j _ _ => by rw [e6])),
    hc,
    (by rw [s1022, e5]; exact h.un.fr hS (h0 17 (by decide) (by decide)) (fun j => hm 29 j (by decide) (by decide) rIn_29 (by omega)) hf),
    (by rw [e9, e4, e8]; exact h.im.fr hS (fun a h1 h2 j => by have q := hm (a - x) j (by omega) (by omega) (rIn_a ⟨by omega, by omega⟩) (by omega); rw [show x + (a - x) = a by omega] at q; exact q) (fun j => hm 51 j (by decide) (by decide) (rIn_5 (by decide)) (by omega)) (fun j => hm 52 j (by decide) (by decide) (rIn_5 (by decide)) (by omega)) (fun j => hm 53 j (by decide) (by decide) (rIn_5 (by decide)) (by omega)) (fun j => hm 29 j (by decide) (by decide) rIn_29 (by omega)) hf hcc),
    ((h.se.fr hS (h0 38 (by decide) (by decide)) hcc).rc (fun j j0 j1 => hA 2 j (by omega))),
    (by rw [s1029, e11]; exact h.tx.fr (h0 15 (by decide) (by decide)) (fun j => hm 28 j (by decide) (by decide) rIn_28 (by omega))),
    (by rw [s1049, e29]; exact h.sv.fr (h0 32 (by decide) (by decide)) (fun j => hm 45 j (by decide) (by decide) rIn_45 (by omega))),
    (by rw [s1053, e32]; exact h.pn.fr (h0 35 (by decide) (by decide)) (fun j => hm 46 j (by decide) (by decide) rIn_46 (by omega))),
    (by rw [s1010]; exact (h0 12 (by decide) (by decide)).trans h.fa),
    (by rw [s1026]; exact (h0 13 (by decide) (by decide)).trans h.wy),
    h.mo.fr hS (h0 30 (by decide) (by decide)),
    h.cs.fr (hm 26 400 (by decide) (by decide) (rIn_4 (by decide)) (by omega)) (hm 27 400 (by decide) (by decide) (rIn_4 (by decide)) (by omega)) (hm 48 400 (by decide) (by decide) (rIn_4 (by decide)) (by omega)) (fun j => hm 35 j (by decide) (by decide) rIn_35 (by omega)),
    ⟨(by rw [s1002, e1]; exact h.vtp),
    hv.1,
    h.vki.kc (fun j j0 j1 => by unfold aK; rw [hA 2 j (by omega), s1023]) (fun j _ _ => by rw [e6]),
    hv.2,
    (by rw [s1022, e5]; exact h.vun),
    (by rw [e9, e4, e8]; exact h.vim),
    (by rw [s1029, e11]; exact h.vtx),
    (by rw [s1049]; exact h.vsv),
    (by rw [s1053]; exact h.vpn)⟩⟩
theorem rel.set_un {S S2 : zS} {m m2 : zMm} {x : Int} {A A2 : zMm} (h : rel S m x A) (hS : zGr S S2)
    (hm : ∀ k j, 0 ≤ k → k < 54 → rIn k j → ¬ ((k = 0 ∧ j = 17) ∨ k = 29) → m2 (x + k) j = m (x + k) j) (far : ∀ a, x + 91 ≤ a → zOld S a → (∃ j, m2 a j ≠ m a j) → ∃ q, 0 ≤ q ∧ q < 8 ∧ m2 (x + 29) q ≠ -1 ∧ m2 (x + 29) q ≤ a ∧ a < m2 (x + 29) q + 6 ∧ zPlan S2 (m2 (x + 29) q)) (hA : ∀ o j, ¬ (o = 5 ∨ (o = 0 ∧ j = 1022)) → A2 o j = A o j) (hv : vUn (A2 0 1022) (A2 5)) (hc : rUn S2 m2 x (A2 0 1022) (A2 5) ∧ ∀ q i, 0 ≤ q → q < 8 → 0 ≤ i → i < 2 → m2 (x + 29) q = -1 ∨ m2 (x + 29) q ≠ m (x + 52) i) : rel S2 m2 x A2 := by
  have h0 : ∀ j, (j = 1 ∨ j = 7 ∨ j = 12 ∨ j = 13 ∨ j = 15 ∨ j = 17 ∨ j = 30 ∨ j = 32 ∨ j = 35 ∨ j = 38) → ¬ (((0 : Int) = 0 ∧ j = 17) ∨ (0 : Int) = 29) → m2 x j = m x j := fun j h1 h2 => by have q := hm 0 j (by omega) (by omega) (rIn_0 h1) h2; rw [Int.add_zero] at q; exact q
  have e1 : A2 1 = A 1 := funext fun j => hA 1 j (by omega)
  have e2 : A2 2 = A 2 := funext fun j => hA 2 j (by omega)
  have e4 : A2 4 = A 4 := funext fun j => hA 4 j (by omega)
  have e6 : A2 6 = A 6 := funext fun j => hA 6 j (by omega)
  have e8 : A2 8 = A 8 := funext fun j => hA 8 j (by omega)
  have e9 : A2 9 = A 9 := funext fun j => hA 9 j (by omega)
  have e11 : A2 11 = A 11 := funext fun j => hA 11 j (by omega)
  have e29 : A2 29 = A 29 := funext fun j => hA 29 j (by omega)
  have e32 : A2 32 = A 32 := funext fun j => hA 32 j (by omega)
  have s1002 : A2 0 1002 = A 0 1002 := hA 0 1002 (by omega)
  have s1010 : A2 0 1010 = A 0 1010 := hA 0 1010 (by omega)
  have s1023 : A2 0 1023 = A 0 1023 := hA 0 1023 (by omega)
  have s1026 : A2 0 1026 = A 0 1026 := hA 0 1026 (by omega)
  have s1029 : A2 0 1029 = A 0 1029 := hA 0 1029 (by omega)
  have s1049 : A2 0 1049 = A 0 1049 := hA 0 1049 (by omega)
  have s1053 : A2 0 1053 = A 0 1053 := hA 0 1053 (by omega)
  have hF : ∀ a, x + 91 ≤ a → zOld S a → (∀ q, 0 ≤ q → q < 8 → m2 (x + 29) q ≠ -1 → zPlan S2 (m2 (x + 29) q) → a < m2 (x + 29) q ∨ m2 (x + 29) q + 6 ≤ a) → ∀ j, m2 a j = m a j := fun a h1 h2 h3 j => by
    refine Classical.byContradiction fun q => ?_
    obtain ⟨r, r0, r1, r2, r3, r4, r5⟩ := far a h1 h2 ⟨j, q⟩
    have := h3 r r0 r1 r2 r5
    omega
  have hcc : ∀ a, 12 ≤ zk S a → zk S a ≤ 16 → ∀ j, m2 a j = m a j := fun a h1 h2 j => hF a (h.wd.2 a h1 h2) (zOld.c h1 h2) (fun q q0 q1 q2 q3 => by
    have hk := hS.2.1 a (by omega)
    rcases Int.lt_or_le a (m2 (x + 29) q) with e | e
    · exact Or.inl e
    · rcases Int.lt_or_le a (m2 (x + 29) q + 6) with e2 | e2
      · exfalso
        have hka : 12 ≤ zk S2 a ∧ zk S2 a ≤ 16 := by rw [hk.1]; exact ⟨h1, h2⟩
        have hs : a = m2 (x + 29) q ∨ a = m2 (x + 29) q + 1 ∨ a = m2 (x + 29) q + 2 ∨ a = m2 (x + 29) q + 3 ∨ a = m2 (x + 29) q + 4 ∨ a = m2 (x + 29) q + 5 := by omega
        have k0 := q3.k
        have k1 := q3.a300
        have k2 := q3.a301
        have k3 := q3.a302
        have k4 := q3.a303
        have k5 := q3.a304
        rcases hs with hs | hs | hs | hs | hs | hs <;> (rw [hs] at hka; omega)
      · exact Or.inr e2) j
  have hKt : ∀ p, x + 91 ≤ p → zKit S p → ∀ a, p ≤ a → a < p + 9 → ∀ j, m2 a j = m a j := fun p p0 p1 a a0 a1 j => hF a (by omega) (p1.kc a a0 a1) (fun q q0 q1 q2 q3 => by
    have := q3.apK (p1.gr hS)
    omega) j
  have un_ki : rKi S2 m2 x (aK (A2 0 1023) (A2 2)) (A2 6) := by
    rw [s1023, e2, e6]
    refine h.ki.fr hS (h0 7 (by decide) (by decide)) (fun a a0 a1 j => ?_)
    rcases h.ki.1 with q | q
    · have q2 := hm (a - x) j (by omega) (by omega) (rIn_a ⟨by omega, by omega⟩) (by omega)
      rw [show x + (a - x) = a by omega] at q2
      exact q2
    · exact hKt _ q h.ki.2.1.1 a a0 a1 j
  have un_se : rSe S2 m2 x (A2 2) := by
    rw [e2]
    exact h.se.fr hS (h0 38 (by decide) (by decide)) hcc
  have un_im : rIm S2 m2 x (A2 9) (A2 4) (A2 8) := by
    rw [e9, e4, e8]
    obtain ⟨i1, i2, i3⟩ := h.im
    have g51 : ∀ j, m2 (x + 51) j = m (x + 51) j := fun j => hm 51 j (by decide) (by decide) (rIn_5 (by decide)) (by omega)
    have g52 : ∀ j, m2 (x + 52) j = m (x + 52) j := fun j => hm 52 j (by decide) (by decide) (rIn_5 (by decide)) (by omega)
    have g53 : ∀ j, m2 (x + 53) j = m (x + 53) j := fun j => hm 53 j (by decide) (by decide) (rIn_5 (by decide)) (by omega)
    refine ⟨fun i a b => ?_, by rw [g52, g52]; exact i2, fun q i a b c d => by rw [g52]; exact hc.2 q i a b c d⟩
    rw [g51, g52, g53]
    rcases i1 i a b with e | ⟨e1, e2, e3, e4, e5⟩
    · exact Or.inl e
    · refine Or.inr ⟨e1, e2, e3.fr hS (fun c c0 c1 j => hF c (by omega) (e3.1.kc c c0 c1) (fun q q0 q1 q2 q3 => ?_) j), e4.fr hS (fun c c0 c1 j => ?_), e5.fr hS hcc⟩
      · have hne := hc.2 q i q0 q1 a b
        have := q3.ap (e3.1.gr hS) (by rcases hne with z | z; exact absurd z q2; exact z)
        omega
      · rcases e4.1 with q | q
        · have q2 := hm (c - x) j (by omega) (by omega) (rIn_a ⟨by omega, by omega⟩) (by omega)
          rw [show x + (c - x) = c by omega] at q2
          exact q2
        · exact hKt _ q e4.2.1.1 c c0 c1 j
  exact ⟨h.wd.gr hS,
    h.sh.gr hS,
    (by rw [s1002, e1]; exact h.tp.fr (h0 1 (by decide) (by decide)) (fun j => hm 1 j (by decide) (by decide) rIn_1 (by omega))),
    un_ki,
    (by rw [e2]; exact h.pl.fr hS (fun a h1 h2 j => by have q := hm (a - x) j (by omega) (by omega) (rIn_a ⟨by omega, by omega⟩) (by omega); rw [show x + (a - x) = a by omega] at q; exact q)),
    hc.1,
    un_im,
    un_se,
    (by rw [s1029, e11]; exact h.tx.fr (h0 15 (by decide) (by decide)) (fun j => hm 28 j (by decide) (by decide) rIn_28 (by omega))),
    (by rw [s1049, e29]; exact h.sv.fr (h0 32 (by decide) (by decide)) (fun j => hm 45 j (by decide) (by decide) rIn_45 (by omega))),
    (by rw [s1053, e32]; exact h.pn.fr (h0 35 (by decide) (by decide)) (fun j => hm 46 j (by decide) (by decide) rIn_46 (by omega))),
    (by rw [s1010]; exact (h0 12 (by decide) (by decide)).trans h.fa),
    (by rw [s1026]; exact (h0 13 (by decide) (by decide)).trans h.wy),
    h.mo.fr hS (h0 30 (by decide) (by decide)),
    h.cs.fr (hm 26 400 (by decide) (by decide) (rIn_4 (by decide)) (by omega)) (hm 27 400 (by decide) (by decide) (rIn_4 (by decide)) (by omega)) (hm 48 400 (by decide) (by decide) (rIn_4 (by decide)) (by omega)) (fun j => hm 35 j (by decide) (by decide) rIn_35 (by omega)),
    ⟨(by rw [s1002, e1]; exact h.vtp),
    (by rw [s1023, e2]; exact h.vbg),
    (by rw [s1023, e2, e6]; exact h.vki),
    (by rw [e2]; exact h.vpl),
    hv,
    (by rw [e9, e4, e8]; exact h.vim),
    (by rw [s1029, e11]; exact h.vtx),
    (by rw [s1049]; exact h.vsv),
    (by rw [s1053]; exact h.vpn)⟩⟩
theorem rel.set_im {S S2 : zS} {m m2 : zMm} {x : Int} {A A2 : zMm} (h : rel S m x A) (hS : zGr S S2)
    (hm : ∀ k j, 0 ≤ k → k < 54 → rIn k j → ¬ (51 ≤ k ∧ k ≤ 53) → m2 (x + k) j = m (x + k) j) (far : zFar S x m m2) (hA : ∀ o j, ¬ (o = 4 ∨ o = 8 ∨ o = 9) → A2 o j = A o j) (hv : vIm (A2 9) (A2 4) (A2 8)) (hc : rIm S2 m2 x (A2 9) (A2 4) (A2 8)) : rel S2 m2 x A2 := by
  have hf : zFar S x m m2 := far
  have hcc : ∀ a, 12 ≤ zk S a → zk S a ≤ 16 → ∀ j, m2 a j = m a j := fun a h1 h2 j => hf a (h.wd.2 a h1 h2) (zOld.c h1 h2) j
  have h0 : ∀ j, (j = 1 ∨ j = 7 ∨ j = 12 ∨ j = 13 ∨ j = 15 ∨ j = 17 ∨ j = 30 ∨ j = 32 ∨ j = 35 ∨ j = 38) → ¬ (51 ≤ (0 : Int) ∧ (0 : Int) ≤ 53) → m2 x j = m x j := fun j h1 h2 => by have q := hm 0 j (by omega) (by omega) (rIn_0 h1) h2; rw [Int.add_zero] at q; exact q
  have e1 : A2 1 = A 1 := funext fun j => hA 1 j (by omega)
  have e2 : A2 2 = A 2 := funext fun j => hA 2 j (by omega)
  have e5 : A2 5 = A 5 := funext fun j => hA 5 j (by omega)
  have e6 : A2 6 = A 6 := funext fun j => hA 6 j (by omega)
  have e11 : A2 11 = A 11 := funext fun j => hA 11 j (by omega)
  have e29 : A2 29 = A 29 := funext fun j => hA 29 j (by omega)
  have e32 : A2 32 = A 32 := funext fun j => hA 32 j (by omega)
  have s1002 : A2 0 1002 = A 0 1002 := hA 0 1002 (by omega)
  have s1010 : A2 0 1010 = A 0 1010 := hA 0 1010 (by omega)
  have s1022 : A2 0 1022 = A 0 1022 := hA 0 1022 (by omega)
  have s1023 : A2 0 1023 = A 0 1023 := hA 0 1023 (by omega)
  have s1026 : A2 0 1026 = A 0 1026 := hA 0 1026 (by omega)
  have s1029 : A2 0 1029 = A 0 1029 := hA 0 1029 (by omega)
  have s1049 : A2 0 1049 = A 0 1049 := hA 0 1049 (by omega)
  have s1053 : A2 0 1053 = A 0 1053 := hA 0 1053 (by omega)
  exact ⟨h.wd.gr hS,
    h.sh.gr hS,
    (by rw [s1002, e1]; exact h.tp.fr (h0 1 (by decide) (by decide)) (fun j => hm 1 j (by decide) (by decide) rIn_1 (by omega))),
    (by rw [s1023, e2, e6]; exact h.ki.fr2 hS (h0 7 (by decide) (by decide)) (fun a h1 h2 j => by have q := hm (a - x) j (by omega) (by omega) (rIn_a ⟨by omega, by omega⟩) (by omega); rw [show x + (a - x) = a by omega] at q; exact q) hf),
    (by rw [e2]; exact h.pl.fr hS (fun a h1 h2 j => by have q := hm (a - x) j (by omega) (by omega) (rIn_a ⟨by omega, by omega⟩) (by omega); rw [show x + (a - x) = a by omega] at q; exact q)),
    (by rw [s1022, e5]; exact h.un.fr hS (h0 17 (by decide) (by decide)) (fun j => hm 29 j (by decide) (by decide) rIn_29 (by omega)) hf),
    hc,
    (by rw [e2]; exact h.se.fr hS (h0 38 (by decide) (by decide)) hcc),
    (by rw [s1029, e11]; exact h.tx.fr (h0 15 (by decide) (by decide)) (fun j => hm 28 j (by decide) (by decide) rIn_28 (by omega))),
    (by rw [s1049, e29]; exact h.sv.fr (h0 32 (by decide) (by decide)) (fun j => hm 45 j (by decide) (by decide) rIn_45 (by omega))),
    (by rw [s1053, e32]; exact h.pn.fr (h0 35 (by decide) (by decide)) (fun j => hm 46 j (by decide) (by decide) rIn_46 (by omega))),
    (by rw [s1010]; exact (h0 12 (by decide) (by decide)).trans h.fa),
    (by rw [s1026]; exact (h0 13 (by decide) (by decide)).trans h.wy),
    h.mo.fr hS (h0 30 (by decide) (by decide)),
    h.cs.fr (hm 26 400 (by decide) (by decide) (rIn_4 (by decide)) (by omega)) (hm 27 400 (by decide) (by decide) (rIn_4 (by decide)) (by omega)) (hm 48 400 (by decide) (by decide) (rIn_4 (by decide)) (by omega)) (fun j => hm 35 j (by decide) (by decide) rIn_35 (by omega)),
    ⟨(by rw [s1002, e1]; exact h.vtp),
    (by rw [s1023, e2]; exact h.vbg),
    (by rw [s1023, e2, e6]; exact h.vki),
    (by rw [e2]; exact h.vpl),
    (by rw [s1022, e5]; exact h.vun),
    hv,
    (by rw [s1029, e11]; exact h.vtx),
    (by rw [s1049]; exact h.vsv),
    (by rw [s1053]; exact h.vpn)⟩⟩
theorem rel.set_se {S S2 : zS} {m m2 : zMm} {x : Int} {A A2 : zMm} (h : rel S m x A) (hS : zGr S S2)
    (hm : ∀ k j, 0 ≤ k → k < 54 → rIn k j → ¬ (k = 0 ∧ j = 38) → m2 (x + k) j = m (x + k) j) (far : zFar S x m m2) (hA : ∀ o j, ¬ (o = 2 ∧ 2059 ≤ j) → A2 o j = A o j) (hv : vBg (A2 0 1023) (A2 2)) (hc : rSe S2 m2 x (A2 2)) : rel S2 m2 x A2 := by
  have hf : zFar S x m m2 := far
  have hcc : ∀ a, 12 ≤ zk S a → zk S a ≤ 16 → ∀ j, m2 a j = m a j := fun a h1 h2 j => hf a (h.wd.2 a h1 h2) (zOld.c h1 h2) j
  have h0 : ∀ j, (j = 1 ∨ j = 7 ∨ j = 12 ∨ j = 13 ∨ j = 15 ∨ j = 17 ∨ j = 30 ∨ j = 32 ∨ j = 35 ∨ j = 38) → ¬ ((0 : Int) = 0 ∧ j = 38) → m2 x j = m x j := fun j h1 h2 => by have q := hm 0 j (by omega) (by omega) (rIn_0 h1) h2; rw [Int.add_zero] at q; exact q
  have e1 : A2 1 = A 1 := funext fun j => hA 1 j (by omega)
  have e4 : A2 4 = A 4 := funext fun j => hA 4 j (by omega)
  have e5 : A2 5 = A 5 := funext fun j => hA 5 j (by omega)
  have e6 : A2 6 = A 6 := funext fun j => hA 6 j (by omega)
  have e8 : A2 8 = A 8 := funext fun j => hA 8 j (by omega)
  have e9 : A2 9 = A 9 := funext fun j => hA 9 j (by omega)
  have e11 : A2 11 = A 11 := funext fun j => hA 11 j (by omega)
  have e29 : A2 29 = A 29 := funext fun j => hA 29 j (by omega)
  have e32 : A2 32 = A 32 := funext fun j => hA 32 j (by omega)
  have s1002 : A2 0 1002 = A 0 1002 := hA 0 1002 (by omega)
  have s1010 : A2 0 1010 = A 0 1010 := hA 0 1010 (by omega)
  have s1022 : A2 0 1022 = A 0 1022 := hA 0 1022 (by omega)
  have s1023 : A2 0 1023 = A 0 1023 := hA 0 1023 (by omega)
  have s1026 : A2 0 1026 = A 0 1026 := hA 0 1026 (by omega)
  have s1029 : A2 0 1029 = A 0 1029 := hA 0 1029 (by omega)
  have s1049 : A2 0 1049 = A 0 1049 := hA 0 1049 (by omega)
  have s1053 : A2 0 1053 = A 0 1053 := hA 0 1053 (by omega)
  exact ⟨h.wd.gr hS,
    h.sh.gr hS,
    (by rw [s1002, e1]; exact h.tp.fr (h0 1 (by decide) (by decide)) (fun j => hm 1 j (by decide) (by decide) rIn_1 (by omega))),
    ((h.ki.fr2 hS (h0 7 (by decide) (by decide)) (fun a h1 h2 j => by have q := hm (a - x) j (by omega) (by omega) (rIn_a ⟨by omega, by omega⟩) (by omega); rw [show x + (a - x) = a by omega] at q; exact q) hf).kc (fun j j0 j1 => by unfold aK; rw [hA 2 j (by omega), s1023]) (fun j _ _ => by rw [e6])),
    ((h.pl.fr hS (fun a h1 h2 j => by have q := hm (a - x) j (by omega) (by omega) (rIn_a ⟨by omega, by omega⟩) (by omega); rw [show x + (a - x) = a by omega] at q; exact q)).rc (fun j j0 j1 => hA 2 j (by have := h.vpl.2.1; omega)) h.vpl.1),
    (by rw [s1022, e5]; exact h.un.fr hS (h0 17 (by decide) (by decide)) (fun j => hm 29 j (by decide) (by decide) rIn_29 (by omega)) hf),
    (by rw [e9, e4, e8]; exact h.im.fr hS (fun a h1 h2 j => by have q := hm (a - x) j (by omega) (by omega) (rIn_a ⟨by omega, by omega⟩) (by omega); rw [show x + (a - x) = a by omega] at q; exact q) (fun j => hm 51 j (by decide) (by decide) (rIn_5 (by decide)) (by omega)) (fun j => hm 52 j (by decide) (by decide) (rIn_5 (by decide)) (by omega)) (fun j => hm 53 j (by decide) (by decide) (rIn_5 (by decide)) (by omega)) (fun j => hm 29 j (by decide) (by decide) rIn_29 (by omega)) hf hcc),
    hc,
    (by rw [s1029, e11]; exact h.tx.fr (h0 15 (by decide) (by decide)) (fun j => hm 28 j (by decide) (by decide) rIn_28 (by omega))),
    (by rw [s1049, e29]; exact h.sv.fr (h0 32 (by decide) (by decide)) (fun j => hm 45 j (by decide) (by decide) rIn_45 (by omega))),
    (by rw [s1053, e32]; exact h.pn.fr (h0 35 (by decide) (by decide)) (fun j => hm 46 j (by decide) (by decide) rIn_46 (by omega))),
    (by rw [s1010]; exact (h0 12 (by decide) (by decide)).trans h.fa),
    (by rw [s1026]; exact (h0 13 (by decide) (by decide)).trans h.wy),
    h.mo.fr hS (h0 30 (by decide) (by decide)),
    h.cs.fr (hm 26 400 (by decide) (by decide) (rIn_4 (by decide)) (by omega)) (hm 27 400 (by decide) (by decide) (rIn_4 (by decide)) (by omega)) (hm 48 400 (by decide) (by decide) (rIn_4 (by decide)) (by omega)) (fun j => hm 35 j (by decide) (by decide) rIn_35 (by omega)),
    ⟨(by rw [s1002, e1]; exact h.vtp),
    hv,
    h.vki.kc (fun j j0 j1 => by unfold aK; rw [hA 2 j (by omega), s1023]) (fun j _ _ => by rw [e6]),
    h.vpl.rc (fun j j0 j1 => hA 2 j (by have := h.vpl.2.1; omega)),
    (by rw [s1022, e5]; exact h.vun),
    (by rw [e9, e4, e8]; exact h.vim),
    (by rw [s1029, e11]; exact h.vtx),
    (by rw [s1049]; exact h.vsv),
    (by rw [s1053]; exact h.vpn)⟩⟩
theorem rel.set_tx {S S2 : zS} {m m2 : zMm} {x : Int} {A A2 : zMm} (h : rel S m x A) (hS : zGr S S2)
    (hm : ∀ k j, 0 ≤ k → k < 54 → rIn k j → ¬ (k = 28 ∨ (k = 0 ∧ j = 15)) → m2 (x + k) j = m (x + k) j) (far : zFar S x m m2) (hA : ∀ o j, ¬ (o = 11 ∨ (o = 0 ∧ j = 1029)) → A2 o j = A o j) (hv : vTx (A2 0 1029) (A2 11)) (hc : rTx m2 x (A2 0 1029) (A2 11)) : rel S2 m2 x A2 := by
  have hf : zFar S x m m2 := far
  have hcc : ∀ a, 12 ≤ zk S a → zk S a ≤ 16 → ∀ j, m2 a j = m a j := fun a h1 h2 j => hf a (h.wd.2 a h1 h2) (zOld.c h1 h2) j
  have h0 : ∀ j, (j = 1 ∨ j = 7 ∨ j = 12 ∨ j = 13 ∨ j = 15 ∨ j = 17 ∨ j = 30 ∨ j = 32 ∨ j = 35 ∨ j = 38) → ¬ ((0 : Int) = 28 ∨ ((0 : Int) = 0 ∧ j = 15)) → m2 x j = m x j := fun j h1 h2 => by have q := hm 0 j (by omega) (by omega) (rIn_0 h1) h2; rw [Int.add_zero] at q; exact q
  have e1 : A2 1 = A 1 := funext fun j => hA 1 j (by omega)
  have e2 : A2 2 = A 2 := funext fun j => hA 2 j (by omega)
  have e4 : A2 4 = A 4 := funext fun j => hA 4 j (by omega)
  have e5 : A2 5 = A 5 := funext fun j => hA 5 j (by omega)
  have e6 : A2 6 = A 6 := funext fun j => hA 6 j (by omega)
  have e8 : A2 8 = A 8 := funext fun j => hA 8 j (by omega)
  have e9 : A2 9 = A 9 := funext fun j => hA 9 j (by omega)
  have e29 : A2 29 = A 29 := funext fun j => hA 29 j (by omega)
  have e32 : A2 32 = A 32 := funext fun j => hA 32 j (by omega)
  have s1002 : A2 0 1002 = A 0 1002 := hA 0 1002 (by omega)
  have s1010 : A2 0 1010 = A 0 1010 := hA 0 1010 (by omega)
  have s1022 : A2 0 1022 = A 0 1022 := hA 0 1022 (by omega)
  have s1023 : A2 0 1023 = A 0 1023 := hA 0 1023 (by omega)
  have s1026 : A2 0 1026 = A 0 1026 := hA 0 1026 (by omega)
  have s1049 : A2 0 1049 = A 0 1049 := hA 0 1049 (by omega)
  have s1053 : A2 0 1053 = A 0 1053 := hA 0 1053 (by omega)
  exact ⟨h.wd.gr hS,
    h.sh.gr hS,
    (by rw [s1002, e1]; exact h.tp.fr (h0 1 (by decide) (by decide)) (fun j => hm 1 j (by decide) (by decide) rIn_1 (by omega))),
    (by rw [s1023, e2, e6]; exact h.ki.fr2 hS (h0 7 (by decide) (by decide)) (fun a h1 h2 j => by have q := hm (a - x) j (by omega) (by omega) (rIn_a ⟨by omega, by omega⟩) (by omega); rw [show x + (a - x) = a by omega] at q; exact q) hf),
    (by rw [e2]; exact h.pl.fr hS (fun a h1 h2 j => by have q := hm (a - x) j (by omega) (by omega) (rIn_a ⟨by omega, by omega⟩) (by omega); rw [show x + (a - x) = a by omega] at q; exact q)),
    (by rw [s1022, e5]; exact h.un.fr hS (h0 17 (by decide) (by decide)) (fun j => hm 29 j (by decide) (by decide) rIn_29 (by omega)) hf),
    (by rw [e9, e4, e8]; exact h.im.fr hS (fun a h1 h2 j => by have q := hm (a - x) j (by omega) (by omega) (rIn_a ⟨by omega, by omega⟩) (by omega); rw [show x + (a - x) = a by omega] at q; exact q) (fun j => hm 51 j (by decide) (by decide) (rIn_5 (by decide)) (by omega)) (fun j => hm 52 j (by decide) (by decide) (rIn_5 (by decide)) (by omega)) (fun j => hm 53 j (by decide) (by decide) (rIn_5 (by decide)) (by omega)) (fun j => hm 29 j (by decide) (by decide) rIn_29 (by omega)) hf hcc),
    (by rw [e2]; exact h.se.fr hS (h0 38 (by decide) (by decide)) hcc),
    hc,
    (by rw [s1049, e29]; exact h.sv.fr (h0 32 (by decide) (by decide)) (fun j => hm 45 j (by decide) (by decide) rIn_45 (by omega))),
    (by rw [s1053, e32]; exact h.pn.fr (h0 35 (by decide) (by decide)) (fun j => hm 46 j (by decide) (by decide) rIn_46 (by omega))),
    (by rw [s1010]; exact (h0 12 (by decide) (by decide)).trans h.fa),
    (by rw [s1026]; exact (h0 13 (by decide) (by decide)).trans h.wy),
    h.mo.fr hS (h0 30 (by decide) (by decide)),
    h.cs.fr (hm 26 400 (by decide) (by decide) (rIn_4 (by decide)) (by omega)) (hm 27 400 (by decide) (by decide) (rIn_4 (by decide)) (by omega)) (hm 48 400 (by decide) (by decide) (rIn_4 (by decide)) (by omega)) (fun j => hm 35 j (by decide) (by decide) rIn_35 (by omega)),
    ⟨(by rw [s1002, e1]; exact h.vtp),
    (by rw [s1023, e2]; exact h.vbg),
    (by rw [s1023, e2, e6]; exact h.vki),
    (by rw [e2]; exact h.vpl),
    (by rw [s1022, e5]; exact h.vun),
    (by rw [e9, e4, e8]; exact h.vim),
    hv,
    (by rw [s1049]; exact h.vsv),
    (by rw [s1053]; exact h.vpn)⟩⟩
theorem rel.set_sv {S S2 : zS} {m m2 : zMm} {x : Int} {A A2 : zMm} (h : rel S m x A) (hS : zGr S S2)
    (hm : ∀ k j, 0 ≤ k → k < 54 → rIn k j → ¬ (k = 45 ∨ (k = 0 ∧ j = 32)) → m2 (x + k) j = m (x + k) j) (far : zFar S x m m2) (hA : ∀ o j, ¬ (o = 29 ∨ (o = 0 ∧ j = 1049)) → A2 o j = A o j) (hv : vSv (A2 0 1049)) (hc : rSv m2 x (A2 0 1049) (A2 29)) : rel S2 m2 x A2 := by
  have hf : zFar S x m m2 := far
  have hcc : ∀ a, 12 ≤ zk S a → zk S a ≤ 16 → ∀ j, m2 a j = m a j := fun a h1 h2 j => hf a (h.wd.2 a h1 h2) (zOld.c h1 h2) j
  have h0 : ∀ j, (j = 1 ∨ j = 7 ∨ j = 12 ∨ j = 13 ∨ j = 15 ∨ j = 17 ∨ j = 30 ∨ j = 32 ∨ j = 35 ∨ j = 38) → ¬ ((0 : Int) = 45 ∨ ((0 : Int) = 0 ∧ j = 32)) → m2 x j = m x j := fun j h1 h2 => by have q := hm 0 j (by omega) (by omega) (rIn_0 h1) h2; rw [Int.add_zero] at q; exact q
  have e1 : A2 1 = A 1 := funext fun j => hA 1 j (by omega)
  have e2 : A2 2 = A 2 := funext fun j => hA 2 j (by omega)
  have e4 : A2 4 = A 4 := funext fun j => hA 4 j (by omega)
  have e5 : A2 5 = A 5 := funext fun j => hA 5 j (by omega)
  have e6 : A2 6 = A 6 := funext fun j => hA 6 j (by omega)
  have e8 : A2 8 = A 8 := funext fun j => hA 8 j (by omega)
  have e9 : A2 9 = A 9 := funext fun j => hA 9 j (by omega)
  have e11 : A2 11 = A 11 := funext fun j => hA 11 j (by omega)
  have e32 : A2 32 = A 32 := funext fun j => hA 32 j (by omega)
  have s1002 : A2 0 1002 = A 0 1002 := hA 0 1002 (by omega)
  have s1010 : A2 0 1010 = A 0 1010 := hA 0 1010 (by omega)
  have s1022 : A2 0 1022 = A 0 1022 := hA 0 1022 (by omega)
  have s1023 : A2 0 1023 = A 0 1023 := hA 0 1023 (by omega)
  have s1026 : A2 0 1026 = A 0 1026 := hA 0 1026 (by omega)
  have s1029 : A2 0 1029 = A 0 1029 := hA 0 1029 (by omega)
  have s1053 : A2 0 1053 = A 0 1053 := hA 0 1053 (by omega)
  exact ⟨h.wd.gr hS,
    h.sh.gr hS,
    (by rw [s1002, e1]; exact h.tp.fr (h0 1 (by decide) (by decide)) (fun j => hm 1 j (by decide) (by decide) rIn_1 (by omega))),
    (by rw [s1023, e2, e6]; exact h.ki.fr2 hS (h0 7 (by decide) (by decide)) (fun a h1 h2 j => by have q := hm (a - x) j (by omega) (by omega) (rIn_a ⟨by omega, by omega⟩) (by omega); rw [show x + (a - x) = a by omega] at q; exact q) hf),
    (by rw [e2]; exact h.pl.fr hS (fun a h1 h2 j => by have q := hm (a - x) j (by omega) (by omega) (rIn_a ⟨by omega, by omega⟩) (by omega); rw [show x + (a - x) = a by omega] at q; exact q)),
    (by rw [s1022, e5]; exact h.un.fr hS (h0 17 (by decide) (by decide)) (fun j => hm 29 j (by decide) (by decide) rIn_29 (by omega)) hf),
    (by rw [e9, e4, e8]; exact h.im.fr hS (fun a h1 h2 j => by have q := hm (a - x) j (by omega) (by omega) (rIn_a ⟨by omega, by omega⟩) (by omega); rw [show x + (a - x) = a by omega] at q; exact q) (fun j => hm 51 j (by decide) (by decide) (rIn_5 (by decide)) (by omega)) (fun j => hm 52 j (by decide) (by decide) (rIn_5 (by decide)) (by omega)) (fun j => hm 53 j (by decide) (by decide) (rIn_5 (by decide)) (by omega)) (fun j => hm 29 j (by decide) (by decide) rIn_29 (by omega)) hf hcc),
    (by rw [e2]; exact h.se.fr hS (h0 38 (by decide) (by decide)) hcc),
    (by rw [s1029, e11]; exact h.tx.fr (h0 15 (by decide) (by decide)) (fun j => hm 28 j (by decide) (by decide) rIn_28 (by omega))),
    hc,
    (by rw [s1053, e32]; exact h.pn.fr (h0 35 (by decide) (by decide)) (fun j => hm 46 j (by decide) (by decide) rIn_46 (by omega))),
    (by rw [s1010]; exact (h0 12 (by decide) (by decide)).trans h.fa),
    (by rw [s1026]; exact (h0 13 (by decide) (by decide)).trans h.wy),
    h.mo.fr hS (h0 30 (by decide) (by decide)),
    h.cs.fr (hm 26 400 (by decide) (by decide) (rIn_4 (by decide)) (by omega)) (hm 27 400 (by decide) (by decide) (rIn_4 (by decide)) (by omega)) (hm 48 400 (by decide) (by decide) (rIn_4 (by decide)) (by omega)) (fun j => hm 35 j (by decide) (by decide) rIn_35 (by omega)),
    ⟨(by rw [s1002, e1]; exact h.vtp),
    (by rw [s1023, e2]; exact h.vbg),
    (by rw [s1023, e2, e6]; exact h.vki),
    (by rw [e2]; exact h.vpl),
    (by rw [s1022, e5]; exact h.vun),
    (by rw [e9, e4, e8]; exact h.vim),
    (by rw [s1029, e11]; exact h.vtx),
    hv,
    (by rw [s1053]; exact h.vpn)⟩⟩
theorem rel.set_pn {S S2 : zS} {m m2 : zMm} {x : Int} {A A2 : zMm} (h : rel S m x A) (hS : zGr S S2)
    (hm : ∀ k j, 0 ≤ k → k < 54 → rIn k j → ¬ (k = 46 ∨ (k = 0 ∧ j = 35)) → m2 (x + k) j = m (x + k) j) (far : zFar S x m m2) (hA : ∀ o j, ¬ (o = 32 ∨ (o = 0 ∧ j = 1053)) → A2 o j = A o j) (hv : vPn (A2 0 1053)) (hc : rPn m2 x (A2 0 1053) (A2 32)) : rel S2 m2 x A2 := by
  have hf : zFar S x m m2 := far
  have hcc : ∀ a, 12 ≤ zk S a → zk S a ≤ 16 → ∀ j, m2 a j = m a j := fun a h1 h2 j => hf a (h.wd.2 a h1 h2) (zOld.c h1 h2) j
  have h0 : ∀ j, (j = 1 ∨ j = 7 ∨ j = 12 ∨ j = 13 ∨ j = 15 ∨ j = 17 ∨ j = 30 ∨ j = 32 ∨ j = 35 ∨ j = 38) → ¬ ((0 : Int) = 46 ∨ ((0 : Int) = 0 ∧ j = 35)) → m2 x j = m x j := fun j h1 h2 => by have q := hm 0 j (by omega) (by omega) (rIn_0 h1) h2; rw [Int.add_zero] at q; exact q
  have e1 : A2 1 = A 1 := funext fun j => hA 1 j (by omega)
  have e2 : A2 2 = A 2 := funext fun j => hA 2 j (by omega)
  have e4 : A2 4 = A 4 := funext fun j => hA 4 j (by omega)
  have e5 : A2 5 = A 5 := funext fun j => hA 5 j (by omega)
  have e6 : A2 6 = A 6 := funext fun j => hA 6 j (by omega)
  have e8 : A2 8 = A 8 := funext fun j => hA 8 j (by omega)
  have e9 : A2 9 = A 9 := funext fun j => hA 9 j (by omega)
  have e11 : A2 11 = A 11 := funext fun j => hA 11 j (by omega)
  have e29 : A2 29 = A 29 := funext fun j => hA 29 j (by omega)
  have s1002 : A2 0 1002 = A 0 1002 := hA 0 1002 (by omega)
  have s1010 : A2 0 1010 = A 0 1010 := hA 0 1010 (by omega)
  have s1022 : A2 0 1022 = A 0 1022 := hA 0 1022 (by omega)
  have s1023 : A2 0 1023 = A 0 1023 := hA 0 1023 (by omega)
  have s1026 : A2 0 1026 = A 0 1026 := hA 0 1026 (by omega)
  have s1029 : A2 0 1029 = A 0 1029 := hA 0 1029 (by omega)
  have s1049 : A2 0 1049 = A 0 1049 := hA 0 1049 (by omega)
  exact ⟨h.wd.gr hS,
    h.sh.gr hS,
    (by rw [s1002, e1]; exact h.tp.fr (h0 1 (by decide) (by decide)) (fun j => hm 1 j (by decide) (by decide) rIn_1 (by omega))),
    (by rw [s1023, e2, e6]; exact h.ki.fr2 hS (h0 7 (by decide) (by decide)) (fun a h1 h2 j => by have q := hm (a - x) j (by omega) (by omega) (rIn_a ⟨by omega, by omega⟩) (by omega); rw [show x + (a - x) = a by omega] at q; exact q) hf),
    (by rw [e2]; exact h.pl.fr hS (fun a h1 h2 j => by have q := hm (a - x) j (by omega) (by omega) (rIn_a ⟨by omega, by omega⟩) (by omega); rw [show x + (a - x) = a by omega] at q; exact q)),
    (by rw [s1022, e5]; exact h.un.fr hS (h0 17 (by decide) (by decide)) (fun j => hm 29 j (by decide) (by decide) rIn_29 (by omega)) hf),
    (by rw [e9, e4, e8]; exact h.im.fr hS (fun a h1 h2 j => by have q := hm (a - x) j (by omega) (by omega) (rIn_a ⟨by omega, by omega⟩) (by omega); rw [show x + (a - x) = a by omega] at q; exact q) (fun j => hm 51 j (by decide) (by decide) (rIn_5 (by decide)) (by omega)) (fun j => hm 52 j (by decide) (by decide) (rIn_5 (by decide)) (by omega)) (fun j => hm 53 j (by decide) (by decide) (rIn_5 (by decide)) (by omega)) (fun j => hm 29 j (by decide) (by decide) rIn_29 (by omega)) hf hcc),
    (by rw [e2]; exact h.se.fr hS (h0 38 (by decide) (by decide)) hcc),
    (by rw [s1029, e11]; exact h.tx.fr (h0 15 (by decide) (by decide)) (fun j => hm 28 j (by decide) (by decide) rIn_28 (by omega))),
    (by rw [s1049, e29]; exact h.sv.fr (h0 32 (by decide) (by decide)) (fun j => hm 45 j (by decide) (by decide) rIn_45 (by omega))),
    hc,
    (by rw [s1010]; exact (h0 12 (by decide) (by decide)).trans h.fa),
    (by rw [s1026]; exact (h0 13 (by decide) (by decide)).trans h.wy),
    h.mo.fr hS (h0 30 (by decide) (by decide)),
    h.cs.fr (hm 26 400 (by decide) (by decide) (rIn_4 (by decide)) (by omega)) (hm 27 400 (by decide) (by decide) (rIn_4 (by decide)) (by omega)) (hm 48 400 (by decide) (by decide) (rIn_4 (by decide)) (by omega)) (fun j => hm 35 j (by decide) (by decide) rIn_35 (by omega)),
    ⟨(by rw [s1002, e1]; exact h.vtp),
    (by rw [s1023, e2]; exact h.vbg),
    (by rw [s1023, e2, e6]; exact h.vki),
    (by rw [e2]; exact h.vpl),
    (by rw [s1022, e5]; exact h.vun),
    (by rw [e9, e4, e8]; exact h.vim),
    (by rw [s1029, e11]; exact h.vtx),
    (by rw [s1049]; exact h.vsv),
    hv⟩⟩
theorem rel.set_fa {S S2 : zS} {m m2 : zMm} {x : Int} {A A2 : zMm} (h : rel S m x A) (hS : zGr S S2)
    (hm : ∀ k j, 0 ≤ k → k < 54 → rIn k j → ¬ (k = 0 ∧ j = 12) → m2 (x + k) j = m (x + k) j) (far : zFar S x m m2) (hA : ∀ o j, ¬ (o = 0 ∧ j = 1010) → A2 o j = A o j) (hc : rFa m2 x (A2 0 1010)) : rel S2 m2 x A2 := by
  have hf : zFar S x m m2 := far
  have hcc : ∀ a, 12 ≤ zk S a → zk S a ≤ 16 → ∀ j, m2 a j = m a j := fun a h1 h2 j => hf a (h.wd.2 a h1 h2) (zOld.c h1 h2) j
  have h0 : ∀ j, (j = 1 ∨ j = 7 ∨ j = 12 ∨ j = 13 ∨ j = 15 ∨ j = 17 ∨ j = 30 ∨ j = 32 ∨ j = 35 ∨ j = 38) → ¬ ((0 : Int) = 0 ∧ j = 12) → m2 x j = m x j := fun j h1 h2 => by have q := hm 0 j (by omega) (by omega) (rIn_0 h1) h2; rw [Int.add_zero] at q; exact q
  have e1 : A2 1 = A 1 := funext fun j => hA 1 j (by omega)
  have e2 : A2 2 = A 2 := funext fun j => hA 2 j (by omega)
  have e4 : A2 4 = A 4 := funext fun j => hA 4 j (by omega)
  have e5 : A2 5 = A 5 := funext fun j => hA 5 j (by omega)
  have e6 : A2 6 = A 6 := funext fun j => hA 6 j (by omega)
  have e8 : A2 8 = A 8 := funext fun j => hA 8 j (by omega)
  have e9 : A2 9 = A 9 := funext fun j => hA 9 j (by omega)
  have e11 : A2 11 = A 11 := funext fun j => hA 11 j (by omega)
  have e29 : A2 29 = A 29 := funext fun j => hA 29 j (by omega)
  have e32 : A2 32 = A 32 := funext fun j => hA 32 j (by omega)
  have s1002 : A2 0 1002 = A 0 1002 := hA 0 1002 (by omega)
  have s1022 : A2 0 1022 = A 0 1022 := hA 0 1022 (by omega)
  have s1023 : A2 0 1023 = A 0 1023 := hA 0 1023 (by omega)
  have s1026 : A2 0 1026 = A 0 1026 := hA 0 1026 (by omega)
  have s1029 : A2 0 1029 = A 0 1029 := hA 0 1029 (by omega)
  have s1049 : A2 0 1049 = A 0 1049 := hA 0 1049 (by omega)
  have s1053 : A2 0 1053 = A 0 1053 := hA 0 1053 (by omega)
  exact ⟨h.wd.gr hS,
    h.sh.gr hS,
    (by rw [s1002, e1]; exact h.tp.fr (h0 1 (by decide) (by decide)) (fun j => hm 1 j (by decide) (by decide) rIn_1 (by omega))),
    (by rw [s1023, e2, e6]; exact h.ki.fr2 hS (h0 7 (by decide) (by decide)) (fun a h1 h2 j => by have q := hm (a - x) j (by omega) (by omega) (rIn_a ⟨by omega, by omega⟩) (by omega); rw [show x + (a - x) = a by omega] at q; exact q) hf),
    (by rw [e2]; exact h.pl.fr hS (fun a h1 h2 j => by have q := hm (a - x) j (by omega) (by omega) (rIn_a ⟨by omega, by omega⟩) (by omega); rw [show x + (a - x) = a by omega] at q; exact q)),
    (by rw [s1022, e5]; exact h.un.fr hS (h0 17 (by decide) (by decide)) (fun j => hm 29 j (by decide) (by decide) rIn_29 (by omega)) hf),
    (by rw [e9, e4, e8]; exact h.im.fr hS (fun a h1 h2 j => by have q := hm (a - x) j (by omega) (by omega) (rIn_a ⟨by omega, by omega⟩) (by omega); rw [show x + (a - x) = a by omega] at q; exact q) (fun j => hm 51 j (by decide) (by decide) (rIn_5 (by decide)) (by omega)) (fun j => hm 52 j (by decide) (by decide) (rIn_5 (by decide)) (by omega)) (fun j => hm 53 j (by decide) (by decide) (rIn_5 (by decide)) (by omega)) (fun j => hm 29 j (by decide) (by decide) rIn_29 (by omega)) hf hcc),
    (by rw [e2]; exact h.se.fr hS (h0 38 (by decide) (by decide)) hcc),
    (by rw [s1029, e11]; exact h.tx.fr (h0 15 (by decide) (by decide)) (fun j => hm 28 j (by decide) (by decide) rIn_28 (by omega))),
    (by rw [s1049, e29]; exact h.sv.fr (h0 32 (by decide) (by decide)) (fun j => hm 45 j (by decide) (by decide) rIn_45 (by omega))),
    (by rw [s1053, e32]; exact h.pn.fr (h0 35 (by decide) (by decide)) (fun j => hm 46 j (by decide) (by decide) rIn_46 (by omega))),
    hc,
    (by rw [s1026]; exact (h0 13 (by decide) (by decide)).trans h.wy),
    h.mo.fr hS (h0 30 (by decide) (by decide)),
    h.cs.fr (hm 26 400 (by decide) (by decide) (rIn_4 (by decide)) (by omega)) (hm 27 400 (by decide) (by decide) (rIn_4 (by decide)) (by omega)) (hm 48 400 (by decide) (by decide) (rIn_4 (by decide)) (by omega)) (fun j => hm 35 j (by decide) (by decide) rIn_35 (by omega)),
    ⟨(by rw [s1002, e1]; exact h.vtp),
    (by rw [s1023, e2]; exact h.vbg),
    (by rw [s1023, e2, e6]; exact h.vki),
    (by rw [e2]; exact h.vpl),
    (by rw [s1022, e5]; exact h.vun),
    (by rw [e9, e4, e8]; exact h.vim),
    (by rw [s1029, e11]; exact h.vtx),
    (by rw [s1049]; exact h.vsv),
    (by rw [s1053]; exact h.vpn)⟩⟩
theorem rel.set_wy {S S2 : zS} {m m2 : zMm} {x : Int} {A A2 : zMm} (h : rel S m x A) (hS : zGr S S2)
    (hm : ∀ k j, 0 ≤ k → k < 54 → rIn k j → ¬ (k = 0 ∧ j = 13) → m2 (x + k) j = m (x + k) j) (far : zFar S x m m2) (hA : ∀ o j, ¬ (o = 0 ∧ j = 1026) → A2 o j = A o j) (hc : rWy m2 x (A2 0 1026)) : rel S2 m2 x A2 := by
  have hf : zFar S x m m2 := far
  have hcc : ∀ a, 12 ≤ zk S a → zk S a ≤ 16 → ∀ j, m2 a j = m a j := fun a h1 h2 j => hf a (h.wd.2 a h1 h2) (zOld.c h1 h2) j
  have h0 : ∀ j, (j = 1 ∨ j = 7 ∨ j = 12 ∨ j = 13 ∨ j = 15 ∨ j = 17 ∨ j = 30 ∨ j = 32 ∨ j = 35 ∨ j = 38) → ¬ ((0 : Int) = 0 ∧ j = 13) → m2 x j = m x j := fun j h1 h2 => by have q := hm 0 j (by omega) (by omega) (rIn_0 h1) h2; rw [Int.add_zero] at q; exact q
  have e1 : A2 1 = A 1 := funext fun j => hA 1 j (by omega)
  have e2 : A2 2 = A 2 := funext fun j => hA 2 j (by omega)
  have e4 : A2 4 = A 4 := funext fun j => hA 4 j (by omega)
  have e5 : A2 5 = A 5 := funext fun j => hA 5 j (by omega)
  have e6 : A2 6 = A 6 := funext fun j => hA 6 j (by omega)
  have e8 : A2 8 = A 8 := funext fun j => hA 8 j (by omega)
  have e9 : A2 9 = A 9 := funext fun j => hA 9 j (by omega)
  have e11 : A2 11 = A 11 := funext fun j => hA 11 j (by omega)
  have e29 : A2 29 = A 29 := funext fun j => hA 29 j (by omega)
  have e32 : A2 32 = A 32 := funext fun j => hA 32 j (by omega)
  have s1002 : A2 0 1002 = A 0 1002 := hA 0 1002 (by omega)
  have s1010 : A2 0 1010 = A 0 1010 := hA 0 1010 (by omega)
  have s1022 : A2 0 1022 = A 0 1022 := hA 0 1022 (by omega)
  have s1023 : A2 0 1023 = A 0 1023 := hA 0 1023 (by omega)
  have s1029 : A2 0 1029 = A 0 1029 := hA 0 1029 (by omega)
  have s1049 : A2 0 1049 = A 0 1049 := hA 0 1049 (by omega)
  have s1053 : A2 0 1053 = A 0 1053 := hA 0 1053 (by omega)
  exact ⟨h.wd.gr hS,
    h.sh.gr hS,
    (by rw [s1002, e1]; exact h.tp.fr (h0 1 (by decide) (by decide)) (fun j => hm 1 j (by decide) (by decide) rIn_1 (by omega))),
    (by rw [s1023, e2, e6]; exact h.ki.fr2 hS (h0 7 (by decide) (by decide)) (fun a h1 h2 j => by have q := hm (a - x) j (by omega) (by omega) (rIn_a ⟨by omega, by omega⟩) (by omega); rw [show x + (a - x) = a by omega] at q; exact q) hf),
    (by rw [e2]; exact h.pl.fr hS (fun a h1 h2 j => by have q := hm (a - x) j (by omega) (by omega) (rIn_a ⟨by omega, by omega⟩) (by omega); rw [show x + (a - x) = a by omega] at q; exact q)),
    (by rw [s1022, e5]; exact h.un.fr hS (h0 17 (by decide) (by decide)) (fun j => hm 29 j (by decide) (by decide) rIn_29 (by omega)) hf),
    (by rw [e9, e4, e8]; exact h.im.fr hS (fun a h1 h2 j => by have q := hm (a - x) j (by omega) (by omega) (rIn_a ⟨by omega, by omega⟩) (by omega); rw [show x + (a - x) = a by omega] at q; exact q) (fun j => hm 51 j (by decide) (by decide) (rIn_5 (by decide)) (by omega)) (fun j => hm 52 j (by decide) (by decide) (rIn_5 (by decide)) (by omega)) (fun j => hm 53 j (by decide) (by decide) (rIn_5 (by decide)) (by omega)) (fun j => hm 29 j (by decide) (by decide) rIn_29 (by omega)) hf hcc),
    (by rw [e2]; exact h.se.fr hS (h0 38 (by decide) (by decide)) hcc),
    (by rw [s1029, e11]; exact h.tx.fr (h0 15 (by decide) (by decide)) (fun j => hm 28 j (by decide) (by decide) rIn_28 (by omega))),
    (by rw [s1049, e29]; exact h.sv.fr (h0 32 (by decide) (by decide)) (fun j => hm 45 j (by decide) (by decide) rIn_45 (by omega))),
    (by rw [s1053, e32]; exact h.pn.fr (h0 35 (by decide) (by decide)) (fun j => hm 46 j (by decide) (by decide) rIn_46 (by omega))),
    (by rw [s1010]; exact (h0 12 (by decide) (by decide)).trans h.fa),
    hc,
    h.mo.fr hS (h0 30 (by decide) (by decide)),
    h.cs.fr (hm 26 400 (by decide) (by decide) (rIn_4 (by decide)) (by omega)) (hm 27 400 (by decide) (by decide) (rIn_4 (by decide)) (by omega)) (hm 48 400 (by decide) (by decide) (rIn_4 (by decide)) (by omega)) (fun j => hm 35 j (by decide) (by decide) rIn_35 (by omega)),
    ⟨(by rw [s1002, e1]; exact h.vtp),
    (by rw [s1023, e2]; exact h.vbg),
    (by rw [s1023, e2, e6]; exact h.vki),
    (by rw [e2]; exact h.vpl),
    (by rw [s1022, e5]; exact h.vun),
    (by rw [e9, e4, e8]; exact h.vim),
    (by rw [s1029, e11]; exact h.vtx),
    (by rw [s1049]; exact h.vsv),
    (by rw [s1053]; exact h.vpn)⟩⟩
theorem rel.set_mo {S S2 : zS} {m m2 : zMm} {x : Int} {A A2 : zMm} (h : rel S m x A) (hS : zGr S S2)
    (hm : ∀ k j, 0 ≤ k → k < 54 → rIn k j → ¬ (k = 0 ∧ j = 30) → m2 (x + k) j = m (x + k) j) (far : zFar S x m m2) (hA : ∀ o j, ¬ (o < 0) → A2 o j = A o j) (hc : rMo S2 m2 x) : rel S2 m2 x A2 := by
  have hf : zFar S x m m2 := far
  have hcc : ∀ a, 12 ≤ zk S a → zk S a ≤ 16 → ∀ j, m2 a j = m a j := fun a h1 h2 j => hf a (h.wd.2 a h1 h2) (zOld.c h1 h2) j
  have h0 : ∀ j, (j = 1 ∨ j = 7 ∨ j = 12 ∨ j = 13 ∨ j = 15 ∨ j = 17 ∨ j = 30 ∨ j = 32 ∨ j = 35 ∨ j = 38) → ¬ ((0 : Int) = 0 ∧ j = 30) → m2 x j = m x j := fun j h1 h2 => by have q := hm 0 j (by omega) (by omega) (rIn_0 h1) h2; rw [Int.add_zero] at q; exact q
  have e1 : A2 1 = A 1 := funext fun j => hA 1 j (by omega)
  have e2 : A2 2 = A 2 := funext fun j => hA 2 j (by omega)
  have e4 : A2 4 = A 4 := funext fun j => hA 4 j (by omega)
  have e5 : A2 5 = A 5 := funext fun j => hA 5 j (by omega)
  have e6 : A2 6 = A 6 := funext fun j => hA 6 j (by omega)
  have e8 : A2 8 = A 8 := funext fun j => hA 8 j (by omega)
  have e9 : A2 9 = A 9 := funext fun j => hA 9 j (by omega)
  have e11 : A2 11 = A 11 := funext fun j => hA 11 j (by omega)
  have e29 : A2 29 = A 29 := funext fun j => hA 29 j (by omega)
  have e32 : A2 32 = A 32 := funext fun j => hA 32 j (by omega)
  have s1002 : A2 0 1002 = A 0 1002 := hA 0 1002 (by omega)
  have s1010 : A2 0 1010 = A 0 1010 := hA 0 1010 (by omega)
  have s1022 : A2 0 1022 = A 0 1022 := hA 0 1022 (by omega)
  have s1023 : A2 0 1023 = A 0 1023 := hA 0 1023 (by omega)
  have s1026 : A2 0 1026 = A 0 1026 := hA 0 1026 (by omega)
  have s1029 : A2 0 1029 = A 0 1029 := hA 0 1029 (by omega)
  have s1049 : A2 0 1049 = A 0 1049 := hA 0 1049 (by omega)
  have s1053 : A2 0 1053 = A 0 1053 := hA 0 1053 (by omega)
  exact ⟨h.wd.gr hS,
    h.sh.gr hS,
    (by rw [s1002, e1]; exact h.tp.fr (h0 1 (by decide) (by decide)) (fun j => hm 1 j (by decide) (by decide) rIn_1 (by omega))),
    (by rw [s1023, e2, e6]; exact h.ki.fr2 hS (h0 7 (by decide) (by decide)) (fun a h1 h2 j => by have q := hm (a - x) j (by omega) (by omega) (rIn_a ⟨by omega, by omega⟩) (by omega); rw [show x + (a - x) = a by omega] at q; exact q) hf),
    (by rw [e2]; exact h.pl.fr hS (fun a h1 h2 j => by have q := hm (a - x) j (by omega) (by omega) (rIn_a ⟨by omega, by omega⟩) (by omega); rw [show x + (a - x) = a by omega] at q; exact q)),
    (by rw [s1022, e5]; exact h.un.fr hS (h0 17 (by decide) (by decide)) (fun j => hm 29 j (by decide) (by decide) rIn_29 (by omega)) hf),
    (by rw [e9, e4, e8]; exact h.im.fr hS (fun a h1 h2 j => by have q := hm (a - x) j (by omega) (by omega) (rIn_a ⟨by omega, by omega⟩) (by omega); rw [show x + (a - x) = a by omega] at q; exact q) (fun j => hm 51 j (by decide) (by decide) (rIn_5 (by decide)) (by omega)) (fun j => hm 52 j (by decide) (by decide) (rIn_5 (by decide)) (by omega)) (fun j => hm 53 j (by decide) (by decide) (rIn_5 (by decide)) (by omega)) (fun j => hm 29 j (by decide) (by decide) rIn_29 (by omega)) hf hcc),
    (by rw [e2]; exact h.se.fr hS (h0 38 (by decide) (by decide)) hcc),
    (by rw [s1029, e11]; exact h.tx.fr (h0 15 (by decide) (by decide)) (fun j => hm 28 j (by decide) (by decide) rIn_28 (by omega))),
    (by rw [s1049, e29]; exact h.sv.fr (h0 32 (by decide) (by decide)) (fun j => hm 45 j (by decide) (by decide) rIn_45 (by omega))),
    (by rw [s1053, e32]; exact h.pn.fr (h0 35 (by decide) (by decide)) (fun j => hm 46 j (by decide) (by decide) rIn_46 (by omega))),
    (by rw [s1010]; exact (h0 12 (by decide) (by decide)).trans h.fa),
    (by rw [s1026]; exact (h0 13 (by decide) (by decide)).trans h.wy),
    hc,
    h.cs.fr (hm 26 400 (by decide) (by decide) (rIn_4 (by decide)) (by omega)) (hm 27 400 (by decide) (by decide) (rIn_4 (by decide)) (by omega)) (hm 48 400 (by decide) (by decide) (rIn_4 (by decide)) (by omega)) (fun j => hm 35 j (by decide) (by decide) rIn_35 (by omega)),
    ⟨(by rw [s1002, e1]; exact h.vtp),
    (by rw [s1023, e2]; exact h.vbg),
    (by rw [s1023, e2, e6]; exact h.vki),
    (by rw [e2]; exact h.vpl),
    (by rw [s1022, e5]; exact h.vun),
    (by rw [e9, e4, e8]; exact h.vim),
    (by rw [s1029, e11]; exact h.vtx),
    (by rw [s1049]; exact h.vsv),
    (by rw [s1053]; exact h.vpn)⟩⟩
