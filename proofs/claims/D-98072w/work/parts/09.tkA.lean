/-! THE WORLD AS FUNCTIONS OF INTEGERS. zS: kind, length, final references of each cell, and the next cell's address; zMm: words of the cells (fields by their numbers, elements by their places) -/
abbrev zS : Type := (Int → Nat) × (Int → Int) × (Int → Int → Int) × Int
abbrev zMm : Type := Int → Int → Int
def zk (S : zS) (a : Int) : Nat := S.1 a
def zn (S : zS) (a : Int) : Int := S.2.1 a
def zf (S : zS) (a i : Int) : Int := S.2.2.1 a i
def zx (S : zS) : Int := S.2.2.2
def zup (m : zMm) (a i x : Int) : zMm := fun b j => if b = a ∧ j = i then x else m b j
def zsf (S : zS) (a i x : Int) : zS := (S.1, S.2.1, (fun b j => if b = a ∧ j = i then x else S.2.2.1 b j), S.2.2.2)
def zal (S : zS) (κ : Nat) (n : Int) : zS := ((fun b => if b = zx S then κ else S.1 b), (fun b => if b = zx S then n else S.2.1 b), (fun b j => if b = zx S then -1 else S.2.2.1 b j), zx S + 1)
/-! classes: a kind is a class's place + 1; arrays from 101 on -/
def TZ0 : u_T := fun _ => ("", "", "", false)
def zcl : List vw_C := [(RX1, TX1, 42), (RX2, TX2, 8), (RX3, TX3, 16), (RX4, TX4, 6), (RX6, TX6, 11), (RX7, TX7, 9), (RX9, TZ0, 0), (RX10, TZ0, 0), (RX11, TZ0, 0), (RX12, TX12, 12), (RX13, TX13, 62), (RX15, TX15, 1), (RX16, TX16, 2), (RX17, TX17, 3), (RX18, TX18, 2), (RX19, TX19, 2)]
def zN (ci : Nat) : Nat := [42, 8, 16, 6, 11, 9, 0, 0, 0, 12, 62, 1, 2, 3, 2, 2].getD ci 0
/-- a field's number: 100 to a class; the readers' own eight are shared -/
def zid (ci k : Nat) : Int := if (ci = 5 ∨ ci = 9) ∧ k < 8 then (400 + k : Nat) else (100 * ci + k : Nat)
/-- a field's sort: 0 int, 1 long, 2 a reference that changes, 3 a final reference -/
def zts : List (List Nat) := [
  [3, 0, 0, 0, 3, 3, 3, 2, 3, 3, 3, 3, 0, 0, 3, 0, 3, 0, 3, 3, 3, 3, 3, 0, 3, 3, 3, 3, 3, 3, 2, 3, 0, 3, 3, 0, 0, 3, 2, 3, 3, 3],
  [2, 2, 2, 2, 2, 0, 0, 0],
  [3, 3, 3, 3, 3, 3, 3, 3, 0, 0, 0, 0, 0, 0, 0, 0],
  [3, 3, 3, 3, 3, 0],
  [0, 0, 0, 0, 0, 0, 1, 3, 2, 0, 3],
  [0, 0, 0, 0, 0, 0, 1, 3, 3],
  [], [], [],
  [0, 0, 0, 0, 0, 0, 1, 3, 3, 3, 0, 3],
  [0, 3, 0, 0, 0, 0, 0, 0, 0, 0, 0, 0, 1, 0, 3, 3, 3, 3, 3, 3, 3, 3, 0, 0, 0, 3, 0, 3, 3, 0, 3, 3, 3, 3, 3, 0, 3, 3, 3, 3, 3, 0, 3, 3, 3, 3, 3, 3, 3, 0, 3, 3, 3, 0, 3, 3, 0, 3, 0, 0, 0, 0],
  [3], [0, 0], [0, 0, 0], [3, 3], [3, 3]]
def zty (i : Int) : Nat := (zts.getD (i.toNat / 100) []).getD (i.toNat % 100) 0
def zfv (S : zS) (m : zMm) (a i : Int) : Value := match zty i with
  | 0 => zI (m a i)
  | 1 => zJ (m a i)
  | 2 => zR (m a i)
  | _ => zR (zf S a i)
def zav (κ : Nat) (x : Int) : Value := if κ = 102 then zJ x else if 110 ≤ κ then zR x else zI x
def zdf (κ : Nat) (j : Int) : Int := if 110 ≤ κ ∨ (κ < 100 ∧ 2 ≤ zty j) then -1 else 0
def znw (m : zMm) (κ : Nat) (a : Int) : zMm := fun b j => if b = a then zdf κ j else m b j
def zarr (κ : Nat) : FieldType := if κ = 101 then .int else if κ = 102 then .long else if κ = 103 then .byte else if κ = 104 then .boolean else if κ = 111 then .object "PanSlices$Plan" else if κ = 112 then .object "PanSlices$Kitchen" else if κ = 113 then .object "PanSlices$Cond" else if κ = 114 then .object "PanSlices$Cook" else .object "java/lang/String"
/-! the run's fixed things: launch, the law's start, numbers of classes and slots, array classes, the script -/
abbrev zG : Type := Launch × State × va_G × (Nat → ClassId) × (Nat × Nat × (Nat → Int32))
def gl (G : zG) : Launch := G.1
def gs (G : zG) : State := G.2.1
def gD (G : zG) : va_G := G.2.2.1
def gA (G : zG) : Nat → ClassId := G.2.2.2.1
def gb (G : zG) : Nat := G.2.2.2.2.1
def gL (G : zG) : Nat := G.2.2.2.2.2.1
def gx (G : zG) : Nat → Int32 := G.2.2.2.2.2.2
def gz (G : zG) : Nat := (gs G).heap.size
def zfr (G : zG) : Addr → Prop := fun q => gz G ≤ q
def zks : List Nat := [101, 102, 103, 104, 111, 112, 113, 114, 115]
/-- what holds of the run's fixed things -/
def zOK (G : zG) : Prop := (∀ w ∈ lw_tbl, w.before #[Value.ref (gb G)] (gs G) = true) ∧ va_K (gD G) zcl [] (gs G) ∧ (∀ κ ∈ zks, ArrOfT (gs G) (gA G κ) (zarr κ) ∧ va_RA (gs G) (gA G κ) (zarr κ)) ∧
  va_X (gb G) (gL G) (gx G) (gs G) (gs G).heap ∧ gb G < gz G ∧ (gl G).stackTraces = false ∧
  vx_Zq Bundle.tN "UNASSIGNED_STACK" Bundle.steD (zfr G) (gs G) (gs G).heap ∧ vx_Zq Bundle.tN "SUPPRESSED_SENTINEL" Bundle.listD (zfr G) (gs G) (gs G).heap ∧
  (Jvm.Cond.and given_1 narrow_1).before #[Value.ref (gb G)] (gs G) = true
def zB (G : zG) (U : State) (H : Heap) : Prop := zOK G ∧ (gs G).WarmedH U.vm ∧ gz G ≤ H.size ∧ ∀ q : Nat, q < gz G → H[q]? = (gs G).heap[q]?
/-- what a word of a cell can be -/
def zwf (κ : Nat) (i x : Int) : Prop := if κ = 101 then zi x else if κ = 102 then zj x else if κ = 103 then -128 ≤ x ∧ x < 128 else if κ = 104 then x = 0 ∨ x = 1 else if 100 < κ then True else if zty i = 0 then zi x else if zty i = 1 then zj x else True
def zRep (G : zG) (S : zS) (m : zMm) (H : Heap) : Prop :=
  zx S = (H.size : Int) ∧ (∀ a : Int, zk S a ≠ 0 → (gz G : Int) ≤ a ∧ a < zx S) ∧
  (∀ (q ci : Nat) (r : vw_C), zk S q = ci + 1 → zcl[ci]? = some r → t_OB q ((gD G).1 ci) r.2.2 ((gD G).2 ci) H (fun k => zfv S m q (zid ci k))) ∧
  (∀ q : Nat, 100 < zk S q → 0 ≤ zn S q ∧ zn S q < 2147483648 ∧ H[q]? = some (arrV (gA G (zk S q)) (zn S q).toNat (fun j => zav (zk S q) (m q j)))) ∧
  (∀ a i : Int, zk S a ≠ 0 → zwf (zk S a) i (m a i))
theorem zRep.at {G : zG} {S : zS} {m : zMm} {H : Heap} (h : zRep G S m H) {a : Int} (hk : zk S a ≠ 0) : ∃ q : Nat, a = q ∧ gz G ≤ q ∧ q < H.size := by
  obtain ⟨h1, h2, -⟩ := h
  obtain ⟨h3, h4⟩ := h2 a hk
  exact ⟨a.toNat, by omega, by omega, by omega⟩
theorem zR_n (q : Nat) : zR q = .ref q := by
  unfold zR
  rw [if_neg (by omega)]
  rfl
theorem zR_neg {a : Int} (h : a < 0) : zR a = .null := by unfold zR; rw [if_pos h]
theorem zR_pos {a : Int} (h : 0 ≤ a) : zR a = .ref a.toNat := by unfold zR; rw [if_neg (by omega)]
theorem zcl_len {ci : Nat} {r : vw_C} (h : zcl[ci]? = some r) : ci < 16 := by
  have := (List.getElem?_eq_some_iff.mp h).1
  exact this
theorem zcl_N {ci : Nat} {r : vw_C} (h : zcl[ci]? = some r) : r.2.2 = zN ci := by
  have hl := zcl_len h
  have : ∀ i : Fin 16, (zcl[i.val]?).map (fun r => r.2.2) = some (zN i.val) := by decide +kernel
  have h2 := this ⟨ci, hl⟩
  rw [h] at h2
  exact Option.some.inj h2
/-- what is the same for every class -/
theorem zcl_in {ci : Nat} {r : vw_C} (h : zcl[ci]? = some r) : ∀ w ∈ u_ws r.1 r.2.1 r.2.2, w ∈ lw_all := by
  have hl := zcl_len h
  have h0 : ∀ (C : String) (T : u_T), ∀ w ∈ u_ws C T 0, w ∈ lw_all := fun C T w hw => by cases hw
  match ci, hl, h with
  | 0, _, h => cases h; exact in_X1
  | 1, _, h => cases h; exact in_X2
  | 2, _, h => cases h; exact in_X3
  | 3, _, h => cases h; exact in_X4
  | 4, _, h => cases h; exact in_X6
  | 5, _, h => cases h; exact in_X7
  | 6, _, h => cases h; exact h0 _ _
  | 7, _, h => cases h; exact h0 _ _
  | 8, _, h => cases h; exact h0 _ _
  | 9, _, h => cases h; exact in_X12
  | 10, _, h => cases h; exact in_X13
  | 11, _, h => cases h; exact in_X15
  | 12, _, h => cases h; exact in_X16
  | 13, _, h => cases h; exact in_X17
  | 14, _, h => cases h; exact in_X18
  | 15, _, h => cases h; exact in_X19
theorem zcl_ty {ci : Nat} {r : vw_C} (h : zcl[ci]? = some r) : ∃ ty : Nat → FieldType, ∀ k, k < r.2.2 → parseFieldDescriptor (r.2.1 k).2.2.1 = some (ty k) := by
  have hl := zcl_len h
  match ci, hl, h with
  | 0, _, h => cases h; exact ⟨tyX1, tyX1_ok⟩
  | 1, _, h => cases h; exact ⟨tyX2, tyX2_ok⟩
  | 2, _, h => cases h; exact ⟨tyX3, tyX3_ok⟩
  | 3, _, h => cases h; exact ⟨tyX4, tyX4_ok⟩
  | 4, _, h => cases h; exact ⟨tyX6, tyX6_ok⟩
  | 5, _, h => cases h; exact ⟨tyX7, tyX7_ok⟩
  | 6, _, h => cases h; exact ⟨fun _ => .int, fun k hk => absurd hk (by show ¬ k < 0; omega)⟩
  | 7, _, h => cases h; exact ⟨fun _ => .int, fun k hk => absurd hk (by show ¬ k < 0; omega)⟩
  | 8, _, h => cases h; exact ⟨fun _ => .int, fun k hk => absurd hk (by show ¬ k < 0; omega)⟩
  | 9, _, h => cases h; exact ⟨tyX12, tyX12_ok⟩
  | 10, _, h => cases h; exact ⟨tyX13, tyX13_ok⟩
  | 11, _, h => cases h; exact ⟨tyX15, tyX15_ok⟩
  | 12, _, h => cases h; exact ⟨tyX16, tyX16_ok⟩
  | 13, _, h => cases h; exact ⟨tyX17, tyX17_ok⟩
  | 14, _, h => cases h; exact ⟨tyX18, tyX18_ok⟩
  | 15, _, h => cases h; exact ⟨tyX19, tyX19_ok⟩
/-- each field's owner, name, descriptor, whether final: by its number -/
def zfo (i : Int) : String × String × String × Bool := match zcl[i.toNat / 100]? with
  | some r => r.2.1 (i.toNat % 100)
  | none => ("", "", "", false)
theorem zcl_fo {ci : Nat} {r : vw_C} (h : zcl[ci]? = some r) {k : Nat} (hk : k < r.2.2) : r.2.1 k = zfo (zid ci k) := by
  have hl := zcl_len h
  rw [zcl_N h] at hk
  have key : ∀ i : Fin 16, ∀ k : Fin 64, k.val < zN i.val → (zcl[i.val]?).map (fun r => r.2.1 k.val) = some (zfo (zid i.val k.val)) := by decide +kernel
  have hk64 : k < 64 := by
    have : ∀ i : Fin 16, zN i.val ≤ 62 := by decide +kernel
    have := this ⟨ci, hl⟩
    exact Nat.lt_of_lt_of_le hk (Nat.le_trans this (by omega))
  have h2 := key ⟨ci, hl⟩ ⟨k, hk64⟩ hk
  rw [h] at h2
  exact Option.some.inj h2
theorem zid_inj {ci j k : Nat} (h : zid ci j = zid ci k) (hj : j < 100) (hk : k < 100) : j = k := by
  unfold zid at h
  split at h <;> split at h <;> omega
theorem zN_100 {ci k : Nat} (h : k < zN ci) : k < 100 := by
  rcases Nat.lt_or_ge ci 16 with hl | hl
  · have : ∀ i : Fin 16, zN i.val ≤ 62 := by decide +kernel
    have := this ⟨ci, hl⟩
    exact Nat.lt_of_lt_of_le h (Nat.le_trans this (by omega))
  · have : zN ci = 0 := by
      unfold zN
      rw [List.getD_eq_getElem?_getD, List.getElem?_eq_none (by exact hl)]
      rfl
    omega
