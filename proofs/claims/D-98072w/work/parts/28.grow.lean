/-! THE WORLD GROWS -/
def zGr (S S' : zS) : Prop := zx S ≤ zx S' ∧ (∀ a, zk S a ≠ 0 → zk S' a = zk S a ∧ zn S' a = zn S a ∧ ∀ i, zf S' a i = zf S a i) ∧ ∀ a, a < zx S → zk S' a = zk S a
theorem zGr.x {S S' : zS} (h : zGr S S') : zx S ≤ zx S' := h.1
theorem zGr.o {S S' : zS} (h : zGr S S') : ∀ a, a < zx S → zk S' a = zk S a := h.2.2
theorem zGr.rf {S : zS} : zGr S S := ⟨Int.le_refl _, fun a _ => ⟨rfl, rfl, fun _ => rfl⟩, fun _ _ => rfl⟩
theorem zGr.tr {S T U : zS} (h : zGr S T) (h2 : zGr T U) : zGr S U := ⟨Int.le_trans h.1 h2.1, fun a ha => by
  obtain ⟨q1, q2, q3⟩ := h.2.1 a ha
  obtain ⟨r1, r2, r3⟩ := h2.2.1 a (by rw [q1]; exact ha)
  exact ⟨r1.trans q1, r2.trans q2, fun i => (r3 i).trans (q3 i)⟩, fun a ha => (h2.2.2 a (Int.lt_of_lt_of_le ha h.1)).trans (h.2.2 a ha)⟩
theorem zk_al {S : zS} {κ : Nat} {n : Int} {b : Int} : zk (zal S κ n) b = if b = zx S then κ else zk S b := rfl
theorem zn_al {S : zS} {κ : Nat} {n : Int} {b : Int} : zn (zal S κ n) b = if b = zx S then n else zn S b := rfl
theorem zf_al {S : zS} {κ : Nat} {n : Int} {b i : Int} : zf (zal S κ n) b i = if b = zx S then -1 else zf S b i := rfl
theorem zx_al {S : zS} {κ : Nat} {n : Int} : zx (zal S κ n) = zx S + 1 := rfl
theorem zk_sf {S : zS} {a i x b : Int} : zk (zsf S a i x) b = zk S b := rfl
theorem zn_sf {S : zS} {a i x b : Int} : zn (zsf S a i x) b = zn S b := rfl
theorem zf_sf {S : zS} {a i x b j : Int} : zf (zsf S a i x) b j = if b = a ∧ j = i then x else zf S b j := rfl
theorem zx_sf {S : zS} {a i x : Int} : zx (zsf S a i x) = zx S := rfl
theorem zGr.al {S : zS} {κ : Nat} {n : Int} (h : zk S (zx S) = 0) : zGr S (zal S κ n) := ⟨by rw [zx_al]; omega, fun a ha => by
  have hne : a ≠ zx S := fun e => ha (by rw [e]; exact h)
  exact ⟨by rw [zk_al, if_neg hne], by rw [zn_al, if_neg hne], fun i => by rw [zf_al, if_neg hne]⟩, fun a ha => by rw [zk_al, if_neg (by omega)]⟩
theorem znw_ne {m : zMm} {κ : Nat} {a b j : Int} (h : b ≠ a) : znw m κ a b j = m b j := if_neg h
theorem znw_at {m : zMm} {κ : Nat} {a j : Int} : znw m κ a a j = zdf κ j := if_pos rfl
theorem zdf_i {κ : Nat} {j : Int} (h : 100 < κ ∧ κ < 110) : zdf κ j = 0 := by
  unfold zdf
  rw [if_neg (by omega)]
theorem zdf_r {κ : Nat} {j : Int} (h : 110 ≤ κ) : zdf κ j = -1 := by
  unfold zdf
  rw [if_pos (Or.inl h)]
section
variable {G : zG} {M : zM} {d pc : Nat} {V st : List Value} {S : zS} {mm : zMm} {k n : Nat} {Q : zQt} {X : zXt}
/-- the cells that are there lie ahead of the next -/
theorem zT.wfS (kk : (∀ a, zk S a ≠ 0 → 0 ≤ a ∧ a < zx S) → zT G M d pc V st S mm k n Q X) : zT G M d pc V st S mm k n Q X := by
  intro p e s m args below meth c H locs cells slots K N ls F hR hW hlo hc hs hV
  exact kk (fun a ha => by have h := hR.2.1 a ha; omega) p e s m args below meth c H locs cells slots K N ls F hR hW hlo hc hs hV
end
theorem zSh.gr {S S' : zS} {p : Int} {L : List (Nat × Int × Int × Int)} (h : zSh S p L) (hg : zGr S S') (hK : zShK L = true) : zSh S' p L := by
  intro t ht
  have h1 := h t ht
  have h2 := hg.2.1 _ (h.kd hK ht)
  obtain ⟨c, a, b, e⟩ := t
  unfold zShF at h1 ⊢
  match c, h1 with
  | 0, h1 => exact h2.1.trans h1
  | 1, h1 => exact h2.2.1.trans h1
  | c + 2, h1 => exact (h2.2.2 _).trans h1
theorem zPlan_K : zShK zPlan_L = true := by decide +kernel
theorem zKit_K : zShK zKit_L = true := by decide +kernel
theorem zMod_K : zShK zMod_L = true := by decide +kernel
theorem zPan_K : zShK zPan_L = true := by decide +kernel
theorem zPlan.gr {S S' : zS} {p : Int} (h : zPlan S p) (hg : zGr S S') : zPlan S' p := zSh.gr h hg zPlan_K
theorem zKit.gr {S S' : zS} {p : Int} (h : zKit S p) (hg : zGr S S') : zKit S' p := zSh.gr h hg zKit_K
theorem zMod.gr {S S' : zS} {p : Int} (h : zMod S p) (hg : zGr S S') : zMod S' p := zSh.gr h hg zMod_K
theorem zPan.gr {S S' : zS} {p : Int} (h : zPan S p) (hg : zGr S S') : zPan S' p := zSh.gr h hg zPan_K
/-- the world grew while x was made: its final references may have changed -/
def zGx (x : Int) (S S' : zS) : Prop := zx S ≤ zx S' ∧ (∀ a, zk S a ≠ 0 → zk S' a = zk S a ∧ zn S' a = zn S a ∧ ∀ i, a ≠ x → zf S' a i = zf S a i) ∧ ∀ a, a < zx S → zk S' a = zk S a
theorem zGx.rf {x : Int} {S : zS} : zGx x S S := ⟨Int.le_refl _, fun a _ => ⟨rfl, rfl, fun _ _ => rfl⟩, fun _ _ => rfl⟩
theorem zGx.tr {x : Int} {S T U : zS} (h : zGx x S T) (h2 : zGx x T U) : zGx x S U := ⟨Int.le_trans h.1 h2.1, fun a ha => by
  obtain ⟨q1, q2, q3⟩ := h.2.1 a ha
  obtain ⟨r1, r2, r3⟩ := h2.2.1 a (by rw [q1]; exact ha)
  exact ⟨r1.trans q1, r2.trans q2, fun i hi => (r3 i hi).trans (q3 i hi)⟩, fun a ha => (h2.2.2 a (Int.lt_of_lt_of_le ha h.1)).trans (h.2.2 a ha)⟩
theorem zGx.of {x : Int} {S S' : zS} (h : zGr S S') : zGx x S S' := ⟨h.1, fun a ha => ⟨(h.2.1 a ha).1, (h.2.1 a ha).2.1, fun i _ => (h.2.1 a ha).2.2 i⟩, h.2.2⟩
theorem zfr0 {S : zS} (h : ∀ a, zk S a ≠ 0 → 0 ≤ a ∧ a < zx S) : zk S (zx S) = 0 := by
  rcases Nat.eq_zero_or_pos (zk S (zx S)) with q | q
  · exact q
  · have := h (zx S) (by omega)
    omega
theorem zGx.al {x : Int} {S : zS} {κ : Nat} {n : Int} (h : ∀ a, zk S a ≠ 0 → 0 ≤ a ∧ a < zx S) : zGx x S (zal S κ n) := zGx.of (zGr.al (zfr0 h))
theorem zGx.sf {x : Int} {S : zS} {i v : Int} : zGx x S (zsf S x i v) := ⟨Int.le_refl _, fun a _ => ⟨rfl, rfl, fun j hj => by rw [zf_sf, if_neg (fun q => hj q.1)]⟩, fun _ _ => rfl⟩
theorem zGx.k {x a : Int} {S S' : zS} {κ : Nat} (h : zGx x S S') (hk : zk S a = κ) (h0 : κ ≠ 0) : zk S' a = κ := by rw [(h.2.1 a (by rw [hk]; exact h0)).1, hk]
theorem zGx.n {x a : Int} {S S' : zS} {κ : Nat} {L : Int} (h : zGx x S S') (hk : zk S a = κ) (h0 : κ ≠ 0) (hn : zn S a = L) : zn S' a = L := by rw [(h.2.1 a (by rw [hk]; exact h0)).2.1, hn]
theorem zGx.f {x a i v : Int} {S S' : zS} {κ : Nat} (h : zGx x S S') (hk : zk S a = κ) (h0 : κ ≠ 0) (hx : a ≠ x) (hv : zf S a i = v) : zf S' a i = v := by rw [(h.2.1 a (by rw [hk]; exact h0)).2.2 i hx, hv]
/-- an object that was new before it was made: the world as a whole grew -/
theorem zGx.gr {x : Int} {S T S' : zS} (h : zGr S T) (h0 : zk S x = 0) (h2 : zGx x T S') : zGr S S' := ⟨Int.le_trans h.1 h2.1, fun a ha => by
  have hne : a ≠ x := fun e => ha (by rw [e]; exact h0)
  obtain ⟨q1, q2, q3⟩ := h.2.1 a ha
  obtain ⟨r1, r2, r3⟩ := h2.2.1 a (by rw [q1]; exact ha)
  exact ⟨r1.trans q1, r2.trans q2, fun i => (r3 i hne).trans (q3 i)⟩, fun a ha => (h2.2.2 a (Int.lt_of_lt_of_le ha h.1)).trans (h.2.2 a ha)⟩
