/-! SHAPES (written by gen/shapes.py) -/
def zShF (S : zS) (p : Int) (t : Nat × Int × Int × Int) : Prop := match t.1 with
  | 0 => zk S (p + t.2.1) = t.2.2.1.toNat
  | 1 => zn S (p + t.2.1) = t.2.2.1
  | _ => zf S (p + t.2.1) t.2.2.1 = p + t.2.2.2
/-- a shape: facts (0, place, kind), (1, place, length), (2, place, field, place that it names) -/
def zSh (S : zS) (p : Int) (L : List (Nat × Int × Int × Int)) : Prop := ∀ t ∈ L, zShF S p t
theorem zSh.at {S : zS} {p : Int} {L : List (Nat × Int × Int × Int)} (h : zSh S p L) (i : Nat) {t : Nat × Int × Int × Int} (ht : L[i]? = some t) : zShF S p t := h t (List.mem_of_getElem? ht)
theorem zSh.shift {S : zS} {p o : Int} {L L' : List (Nat × Int × Int × Int)} (h : zSh S p L) (hs : ∀ t ∈ L', (t.1, o + t.2.1, t.2.2.1, if t.1 = 0 ∨ t.1 = 1 then t.2.2.2 else o + t.2.2.2) ∈ L) : zSh S (p + o) L' := by
  intro t ht
  have h1 := h _ (hs t ht)
  obtain ⟨c, a, b, e⟩ := t
  unfold zShF at h1 ⊢
  simp only at h1 ⊢
  rw [show p + o + a = p + (o + a) by omega]
  match c, h1 with
  | 0, h1 => exact h1
  | 1, h1 => exact h1
  | c + 2, h1 =>
    rw [if_neg (by omega)] at h1
    simp only at h1 ⊢
    rw [h1]
    omega
/-- every place of the list has a kind there -/
def zShK (L : List (Nat × Int × Int × Int)) : Bool := L.all fun t => L.any fun u => u.1 == 0 && u.2.1 == t.2.1 && decide (0 < u.2.2.1)
theorem zSh.kd {S : zS} {p : Int} {L : List (Nat × Int × Int × Int)} (h : zSh S p L) (hK : zShK L = true) {t : Nat × Int × Int × Int} (ht : t ∈ L) : zk S (p + t.2.1) ≠ 0 := by
  have h1 := (List.all_eq_true.mp hK) t ht
  obtain ⟨u, hu, h2⟩ := List.any_eq_true.mp h1
  simp only [Bool.and_eq_true, beq_iff_eq, decide_eq_true_eq] at h2
  have h3 := h u hu
  obtain ⟨c, a, b, e⟩ := u
  obtain ⟨⟨h4, h5⟩, h6⟩ := h2
  simp only at h4 h5 h6
  subst h4
  subst h5
  have h7 : zk S (p + t.2.1) = b.toNat := h3
  omega
def zPlan_L : List (Nat × Int × Int × Int) := [(0, 0, 4, 0), (2, 0, 300, 1), (0, 1, 101, 0), (1, 1, 400, 0), (2, 0, 301, 2), (0, 2, 101, 0), (1, 2, 400, 0), (2, 0, 302, 3), (0, 3, 101, 0), (1, 3, 400, 0), (2, 0, 303, 4), (0, 4, 101, 0), (1, 4, 400, 0), (2, 0, 304, 5), (0, 5, 101, 0), (1, 5, 400, 0)]
def zPlan (S : zS) (p : Int) : Prop := zSh S p zPlan_L
theorem zPlan.k {S : zS} {p : Int} (h : zPlan S p) : zk S p = 4 := by
  have q : zk S (p + 0) = 4 := zSh.at h 0 rfl
  rw [Int.add_zero] at q
  exact q
theorem zPlan.f300 {S : zS} {p : Int} (h : zPlan S p) : zf S p 300 = p + 1 := by
  have q : zf S (p + 0) 300 = p + 1 := zSh.at h 1 rfl
  rw [Int.add_zero] at q
  exact q
theorem zPlan.a300 {S : zS} {p : Int} (h : zPlan S p) : zk S (p + 1) = 101 := zSh.at h 2 rfl
theorem zPlan.n300 {S : zS} {p : Int} (h : zPlan S p) : zn S (p + 1) = 400 := zSh.at h 3 rfl
theorem zPlan.f301 {S : zS} {p : Int} (h : zPlan S p) : zf S p 301 = p + 2 := by
  have q : zf S (p + 0) 301 = p + 2 := zSh.at h 4 rfl
  rw [Int.add_zero] at q
  exact q
theorem zPlan.a301 {S : zS} {p : Int} (h : zPlan S p) : zk S (p + 2) = 101 := zSh.at h 5 rfl
theorem zPlan.n301 {S : zS} {p : Int} (h : zPlan S p) : zn S (p + 2) = 400 := zSh.at h 6 rfl
theorem zPlan.f302 {S : zS} {p : Int} (h : zPlan S p) : zf S p 302 = p + 3 := by
  have q : zf S (p + 0) 302 = p + 3 := zSh.at h 7 rfl
  rw [Int.add_zero] at q
  exact q
theorem zPlan.a302 {S : zS} {p : Int} (h : zPlan S p) : zk S (p + 3) = 101 := zSh.at h 8 rfl
theorem zPlan.n302 {S : zS} {p : Int} (h : zPlan S p) : zn S (p + 3) = 400 := zSh.at h 9 rfl
theorem zPlan.f303 {S : zS} {p : Int} (h : zPlan S p) : zf S p 303 = p + 4 := by
  have q : zf S (p + 0) 303 = p + 4 := zSh.at h 10 rfl
  rw [Int.add_zero] at q
  exact q
theorem zPlan.a303 {S : zS} {p : Int} (h : zPlan S p) : zk S (p + 4) = 101 := zSh.at h 11 rfl
theorem zPlan.n303 {S : zS} {p : Int} (h : zPlan S p) : zn S (p + 4) = 400 := zSh.at h 12 rfl
theorem zPlan.f304 {S : zS} {p : Int} (h : zPlan S p) : zf S p 304 = p + 5 := by
  have q : zf S (p + 0) 304 = p + 5 := zSh.at h 13 rfl
  rw [Int.add_zero] at q
  exact q
theorem zPlan.a304 {S : zS} {p : Int} (h : zPlan S p) : zk S (p + 5) = 101 := zSh.at h 14 rfl
theorem zPlan.n304 {S : zS} {p : Int} (h : zPlan S p) : zn S (p + 5) = 400 := zSh.at h 15 rfl
def zKit_L : List (Nat × Int × Int × Int) := [(0, 0, 3, 0), (2, 0, 200, 1), (0, 1, 102, 0), (1, 1, 8, 0), (2, 0, 201, 2), (0, 2, 102, 0), (1, 2, 8, 0), (2, 0, 202, 3), (0, 3, 101, 0), (1, 3, 16, 0), (2, 0, 203, 4), (0, 4, 101, 0), (1, 4, 8, 0), (2, 0, 204, 5), (0, 5, 101, 0), (1, 5, 8, 0), (2, 0, 205, 6), (0, 6, 101, 0), (1, 6, 5, 0), (2, 0, 206, 7), (0, 7, 101, 0), (1, 7, 5, 0), (2, 0, 207, 8), (0, 8, 104, 0), (1, 8, 8, 0)]
def zKit (S : zS) (p : Int) : Prop := zSh S p zKit_L
theorem zKit.k {S : zS} {p : Int} (h : zKit S p) : zk S p = 3 := by
  have q : zk S (p + 0) = 3 := zSh.at h 0 rfl
  rw [Int.add_zero] at q
  exact q
theorem zKit.f200 {S : zS} {p : Int} (h : zKit S p) : zf S p 200 = p + 1 := by
  have q : zf S (p + 0) 200 = p + 1 := zSh.at h 1 rfl
  rw [Int.add_zero] at q
  exact q
theorem zKit.a200 {S : zS} {p : Int} (h : zKit S p) : zk S (p + 1) = 102 := zSh.at h 2 rfl
theorem zKit.n200 {S : zS} {p : Int} (h : zKit S p) : zn S (p + 1) = 8 := zSh.at h 3 rfl
theorem zKit.f201 {S : zS} {p : Int} (h : zKit S p) : zf S p 201 = p + 2 := by
  have q : zf S (p + 0) 201 = p + 2 := zSh.at h 4 rfl
  rw [Int.add_zero] at q
  exact q
theorem zKit.a201 {S : zS} {p : Int} (h : zKit S p) : zk S (p + 2) = 102 := zSh.at h 5 rfl
theorem zKit.n201 {S : zS} {p : Int} (h : zKit S p) : zn S (p + 2) = 8 := zSh.at h 6 rfl
theorem zKit.f202 {S : zS} {p : Int} (h : zKit S p) : zf S p 202 = p + 3 := by
  have q : zf S (p + 0) 202 = p + 3 := zSh.at h 7 rfl
  rw [Int.add_zero] at q
  exact q
theorem zKit.a202 {S : zS} {p : Int} (h : zKit S p) : zk S (p + 3) = 101 := zSh.at h 8 rfl
theorem zKit.n202 {S : zS} {p : Int} (h : zKit S p) : zn S (p + 3) = 16 := zSh.at h 9 rfl
theorem zKit.f203 {S : zS} {p : Int} (h : zKit S p) : zf S p 203 = p + 4 := by
  have q : zf S (p + 0) 203 = p + 4 := zSh.at h 10 rfl
  rw [Int.add_zero] at q
  exact q
theorem zKit.a203 {S : zS} {p : Int} (h : zKit S p) : zk S (p + 4) = 101 := zSh.at h 11 rfl
theorem zKit.n203 {S : zS} {p : Int} (h : zKit S p) : zn S (p + 4) = 8 := zSh.at h 12 rfl
theorem zKit.f204 {S : zS} {p : Int} (h : zKit S p) : zf S p 204 = p + 5 := by
  have q : zf S (p + 0) 204 = p + 5 := zSh.at h 13 rfl
  rw [Int.add_zero] at q
  exact q
theorem zKit.a204 {S : zS} {p : Int} (h : zKit S p) : zk S (p + 5) = 101 := zSh.at h 14 rfl
theorem zKit.n204 {S : zS} {p : Int} (h : zKit S p) : zn S (p + 5) = 8 := zSh.at h 15 rfl
theorem zKit.f205 {S : zS} {p : Int} (h : zKit S p) : zf S p 205 = p + 6 := by
  have q : zf S (p + 0) 205 = p + 6 := zSh.at h 16 rfl
  rw [Int.add_zero] at q
  exact q
theorem zKit.a205 {S : zS} {p : Int} (h : zKit S p) : zk S (p + 6) = 101 := zSh.at h 17 rfl
theorem zKit.n205 {S : zS} {p : Int} (h : zKit S p) : zn S (p + 6) = 5 := zSh.at h 18 rfl
theorem zKit.f206 {S : zS} {p : Int} (h : zKit S p) : zf S p 206 = p + 7 := by
  have q : zf S (p + 0) 206 = p + 7 := zSh.at h 19 rfl
  rw [Int.add_zero] at q
  exact q
theorem zKit.a206 {S : zS} {p : Int} (h : zKit S p) : zk S (p + 7) = 101 := zSh.at h 20 rfl
theorem zKit.n206 {S : zS} {p : Int} (h : zKit S p) : zn S (p + 7) = 5 := zSh.at h 21 rfl
theorem zKit.f207 {S : zS} {p : Int} (h : zKit S p) : zf S p 207 = p + 8 := by
  have q : zf S (p + 0) 207 = p + 8 := zSh.at h 22 rfl
  rw [Int.add_zero] at q
  exact q
theorem zKit.a207 {S : zS} {p : Int} (h : zKit S p) : zk S (p + 8) = 104 := zSh.at h 23 rfl
theorem zKit.n207 {S : zS} {p : Int} (h : zKit S p) : zn S (p + 8) = 8 := zSh.at h 24 rfl
def zMod_L : List (Nat × Int × Int × Int) := [(0, 0, 11, 0), (2, 0, 1001, 1), (0, 1, 101, 0), (1, 1, 640, 0), (2, 0, 1014, 2), (0, 2, 101, 0), (1, 2, 2301, 0), (2, 0, 1015, 3), (0, 3, 101, 0), (1, 3, 58, 0), (2, 0, 1016, 4), (0, 4, 101, 0), (1, 4, 4602, 0), (2, 0, 1017, 5), (0, 5, 101, 0), (1, 5, 16008, 0), (2, 0, 1018, 6), (0, 6, 102, 0), (1, 6, 21, 0), (2, 0, 1019, 7), (0, 7, 102, 0), (1, 7, 21, 0), (2, 0, 1020, 8), (0, 8, 102, 0), (1, 8, 42, 0), (2, 0, 1021, 9), (0, 9, 104, 0), (1, 9, 2, 0), (2, 0, 1025, 10), (0, 10, 101, 0), (1, 10, 150, 0), (2, 0, 1027, 11), (0, 11, 101, 0), (1, 11, 9000, 0), (2, 0, 1028, 12), (0, 12, 101, 0), (1, 12, 6, 0), (2, 0, 1030, 13), (0, 13, 101, 0), (1, 13, 8, 0), (2, 0, 1031, 14), (0, 14, 101, 0), (1, 14, 8, 0), (2, 0, 1032, 15), (0, 15, 101, 0), (1, 15, 8, 0), (2, 0, 1033, 16), (0, 16, 101, 0), (1, 16, 8, 0), (2, 0, 1034, 17), (0, 17, 101, 0), (1, 17, 400, 0), (2, 0, 1036, 18), (0, 18, 101, 0), (1, 18, 64, 0), (2, 0, 1037, 19), (0, 19, 101, 0), (1, 19, 4, 0), (2, 0, 1038, 20), (0, 20, 101, 0), (1, 20, 4, 0), (2, 0, 1039, 21), (0, 21, 101, 0), (1, 21, 16, 0), (2, 0, 1040, 22), (0, 22, 101, 0), (1, 22, 4, 0), (2, 0, 1042, 23), (0, 23, 101, 0), (1, 23, 16, 0), (2, 0, 1043, 24), (0, 24, 101, 0), (1, 24, 8, 0), (2, 0, 1044, 25), (0, 25, 101, 0), (1, 25, 4, 0), (2, 0, 1045, 26), (0, 26, 101, 0), (1, 26, 4, 0), (2, 0, 1046, 27), (0, 27, 101, 0), (1, 27, 2001, 0), (2, 0, 1047, 28), (0, 28, 101, 0), (1, 28, 87552, 0), (2, 0, 1048, 29), (0, 29, 101, 0), (1, 29, 8, 0), (2, 0, 1050, 30), (0, 30, 101, 0), (1, 30, 256, 0), (2, 0, 1051, 31), (0, 31, 101, 0), (1, 31, 1300, 0), (2, 0, 1052, 32), (0, 32, 101, 0), (1, 32, 5, 0), (2, 0, 1054, 33), (0, 33, 102, 0), (1, 33, 1024, 0), (2, 0, 1055, 34), (0, 34, 102, 0), (1, 34, 1024, 0), (2, 0, 1057, 35), (0, 35, 101, 0), (1, 35, 240, 0)]
def zMod (S : zS) (p : Int) : Prop := zSh S p zMod_L
theorem zMod.k {S : zS} {p : Int} (h : zMod S p) : zk S p = 11 := by
  have q : zk S (p + 0) = 11 := zSh.at h 0 rfl
  rw [Int.add_zero] at q
  exact q
theorem zMod.f1001 {S : zS} {p : Int} (h : zMod S p) : zf S p 1001 = p + 1 := by
  have q : zf S (p + 0) 1001 = p + 1 := zSh.at h 1 rfl
  rw [Int.add_zero] at q
  exact q
theorem zMod.a1001 {S : zS} {p : Int} (h : zMod S p) : zk S (p + 1) = 101 := zSh.at h 2 rfl
theorem zMod.n1001 {S : zS} {p : Int} (h : zMod S p) : zn S (p + 1) = 640 := zSh.at h 3 rfl
theorem zMod.f1014 {S : zS} {p : Int} (h : zMod S p) : zf S p 1014 = p + 2 := by
  have q : zf S (p + 0) 1014 = p + 2 := zSh.at h 4 rfl
  rw [Int.add_zero] at q
  exact q
theorem zMod.a1014 {S : zS} {p : Int} (h : zMod S p) : zk S (p + 2) = 101 := zSh.at h 5 rfl
theorem zMod.n1014 {S : zS} {p : Int} (h : zMod S p) : zn S (p + 2) = 2301 := zSh.at h 6 rfl
theorem zMod.f1015 {S : zS} {p : Int} (h : zMod S p) : zf S p 1015 = p + 3 := by
  have q : zf S (p + 0) 1015 = p + 3 := zSh.at h 7 rfl
  rw [Int.add_zero] at q
  exact q
theorem zMod.a1015 {S : zS} {p : Int} (h : zMod S p) : zk S (p + 3) = 101 := zSh.at h 8 rfl
theorem zMod.n1015 {S : zS} {p : Int} (h : zMod S p) : zn S (p + 3) = 58 := zSh.at h 9 rfl
theorem zMod.f1016 {S : zS} {p : Int} (h : zMod S p) : zf S p 1016 = p + 4 := by
  have q : zf S (p + 0) 1016 = p + 4 := zSh.at h 10 rfl
  rw [Int.add_zero] at q
  exact q
theorem zMod.a1016 {S : zS} {p : Int} (h : zMod S p) : zk S (p + 4) = 101 := zSh.at h 11 rfl
theorem zMod.n1016 {S : zS} {p : Int} (h : zMod S p) : zn S (p + 4) = 4602 := zSh.at h 12 rfl
theorem zMod.f1017 {S : zS} {p : Int} (h : zMod S p) : zf S p 1017 = p + 5 := by
  have q : zf S (p + 0) 1017 = p + 5 := zSh.at h 13 rfl
  rw [Int.add_zero] at q
  exact q
theorem zMod.a1017 {S : zS} {p : Int} (h : zMod S p) : zk S (p + 5) = 101 := zSh.at h 14 rfl
theorem zMod.n1017 {S : zS} {p : Int} (h : zMod S p) : zn S (p + 5) = 16008 := zSh.at h 15 rfl
theorem zMod.f1018 {S : zS} {p : Int} (h : zMod S p) : zf S p 1018 = p + 6 := by
  have q : zf S (p + 0) 1018 = p + 6 := zSh.at h 16 rfl
  rw [Int.add_zero] at q
  exact q
theorem zMod.a1018 {S : zS} {p : Int} (h : zMod S p) : zk S (p + 6) = 102 := zSh.at h 17 rfl
theorem zMod.n1018 {S : zS} {p : Int} (h : zMod S p) : zn S (p + 6) = 21 := zSh.at h 18 rfl
theorem zMod.f1019 {S : zS} {p : Int} (h : zMod S p) : zf S p 1019 = p + 7 := by
  have q : zf S (p + 0) 1019 = p + 7 := zSh.at h 19 rfl
  rw [Int.add_zero] at q
  exact q
theorem zMod.a1019 {S : zS} {p : Int} (h : zMod S p) : zk S (p + 7) = 102 := zSh.at h 20 rfl
theorem zMod.n1019 {S : zS} {p : Int} (h : zMod S p) : zn S (p + 7) = 21 := zSh.at h 21 rfl
theorem zMod.f1020 {S : zS} {p : Int} (h : zMod S p) : zf S p 1020 = p + 8 := by
  have q : zf S (p + 0) 1020 = p + 8 := zSh.at h 22 rfl
  rw [Int.add_zero] at q
  exact q
theorem zMod.a1020 {S : zS} {p : Int} (h : zMod S p) : zk S (p + 8) = 102 := zSh.at h 23 rfl
theorem zMod.n1020 {S : zS} {p : Int} (h : zMod S p) : zn S (p + 8) = 42 := zSh.at h 24 rfl
theorem zMod.f1021 {S : zS} {p : Int} (h : zMod S p) : zf S p 1021 = p + 9 := by
  have q : zf S (p + 0) 1021 = p + 9 := zSh.at h 25 rfl
  rw [Int.add_zero] at q
  exact q
theorem zMod.a1021 {S : zS} {p : Int} (h : zMod S p) : zk S (p + 9) = 104 := zSh.at h 26 rfl
theorem zMod.n1021 {S : zS} {p : Int} (h : zMod S p) : zn S (p + 9) = 2 := zSh.at h 27 rfl
theorem zMod.f1025 {S : zS} {p : Int} (h : zMod S p) : zf S p 1025 = p + 10 := by
  have q : zf S (p + 0) 1025 = p + 10 := zSh.at h 28 rfl
  rw [Int.add_zero] at q
  exact q
theorem zMod.a1025 {S : zS} {p : Int} (h : zMod S p) : zk S (p + 10) = 101 := zSh.at h 29 rfl
theorem zMod.n1025 {S : zS} {p : Int} (h : zMod S p) : zn S (p + 10) = 150 := zSh.at h 30 rfl
theorem zMod.f1027 {S : zS} {p : Int} (h : zMod S p) : zf S p 1027 = p + 11 := by
  have q : zf S (p + 0) 1027 = p + 11 := zSh.at h 31 rfl
  rw [Int.add_zero] at q
  exact q
theorem zMod.a1027 {S : zS} {p : Int} (h : zMod S p) : zk S (p + 11) = 101 := zSh.at h 32 rfl
theorem zMod.n1027 {S : zS} {p : Int} (h : zMod S p) : zn S (p + 11) = 9000 := zSh.at h 33 rfl
theorem zMod.f1028 {S : zS} {p : Int} (h : zMod S p) : zf S p 1028 = p + 12 := by
  have q : zf S (p + 0) 1028 = p + 12 := zSh.at h 34 rfl
  rw [Int.add_zero] at q
  exact q
theorem zMod.a1028 {S : zS} {p : Int} (h : zMod S p) : zk S (p + 12) = 101 := zSh.at h 35 rfl
theorem zMod.n1028 {S : zS} {p : Int} (h : zMod S p) : zn S (p + 12) = 6 := zSh.at h 36 rfl
theorem zMod.f1030 {S : zS} {p : Int} (h : zMod S p) : zf S p 1030 = p + 13 := by
  have q : zf S (p + 0) 1030 = p + 13 := zSh.at h 37 rfl
  rw [Int.add_zero] at q
  exact q
theorem zMod.a1030 {S : zS} {p : Int} (h : zMod S p) : zk S (p + 13) = 101 := zSh.at h 38 rfl
theorem zMod.n1030 {S : zS} {p : Int} (h : zMod S p) : zn S (p + 13) = 8 := zSh.at h 39 rfl
theorem zMod.f1031 {S : zS} {p : Int} (h : zMod S p) : zf S p 1031 = p + 14 := by
  have q : zf S (p + 0) 1031 = p + 14 := zSh.at h 40 rfl
  rw [Int.add_zero] at q
  exact q
theorem zMod.a1031 {S : zS} {p : Int} (h : zMod S p) : zk S (p + 14) = 101 := zSh.at h 41 rfl
theorem zMod.n1031 {S : zS} {p : Int} (h : zMod S p) : zn S (p + 14) = 8 := zSh.at h 42 rfl
theorem zMod.f1032 {S : zS} {p : Int} (h : zMod S p) : zf S p 1032 = p + 15 := by
  have q : zf S (p + 0) 1032 = p + 15 := zSh.at h 43 rfl
  rw [Int.add_zero] at q
  exact q
theorem zMod.a1032 {S : zS} {p : Int} (h : zMod S p) : zk S (p + 15) = 101 := zSh.at h 44 rfl
theorem zMod.n1032 {S : zS} {p : Int} (h : zMod S p) : zn S (p + 15) = 8 := zSh.at h 45 rfl
theorem zMod.f1033 {S : zS} {p : Int} (h : zMod S p) : zf S p 1033 = p + 16 := by
  have q : zf S (p + 0) 1033 = p + 16 := zSh.at h 46 rfl
  rw [Int.add_zero] at q
  exact q
theorem zMod.a1033 {S : zS} {p : Int} (h : zMod S p) : zk S (p + 16) = 101 := zSh.at h 47 rfl
theorem zMod.n1033 {S : zS} {p : Int} (h : zMod S p) : zn S (p + 16) = 8 := zSh.at h 48 rfl
theorem zMod.f1034 {S : zS} {p : Int} (h : zMod S p) : zf S p 1034 = p + 17 := by
  have q : zf S (p + 0) 1034 = p + 17 := zSh.at h 49 rfl
  rw [Int.add_zero] at q
  exact q
theorem zMod.a1034 {S : zS} {p : Int} (h : zMod S p) : zk S (p + 17) = 101 := zSh.at h 50 rfl
theorem zMod.n1034 {S : zS} {p : Int} (h : zMod S p) : zn S (p + 17) = 400 := zSh.at h 51 rfl
theorem zMod.f1036 {S : zS} {p : Int} (h : zMod S p) : zf S p 1036 = p + 18 := by
  have q : zf S (p + 0) 1036 = p + 18 := zSh.at h 52 rfl
  rw [Int.add_zero] at q
  exact q
theorem zMod.a1036 {S : zS} {p : Int} (h : zMod S p) : zk S (p + 18) = 101 := zSh.at h 53 rfl
theorem zMod.n1036 {S : zS} {p : Int} (h : zMod S p) : zn S (p + 18) = 64 := zSh.at h 54 rfl
theorem zMod.f1037 {S : zS} {p : Int} (h : zMod S p) : zf S p 1037 = p + 19 := by
  have q : zf S (p + 0) 1037 = p + 19 := zSh.at h 55 rfl
  rw [Int.add_zero] at q
  exact q
theorem zMod.a1037 {S : zS} {p : Int} (h : zMod S p) : zk S (p + 19) = 101 := zSh.at h 56 rfl
theorem zMod.n1037 {S : zS} {p : Int} (h : zMod S p) : zn S (p + 19) = 4 := zSh.at h 57 rfl
theorem zMod.f1038 {S : zS} {p : Int} (h : zMod S p) : zf S p 1038 = p + 20 := by
  have q : zf S (p + 0) 1038 = p + 20 := zSh.at h 58 rfl
  rw [Int.add_zero] at q
  exact q
theorem zMod.a1038 {S : zS} {p : Int} (h : zMod S p) : zk S (p + 20) = 101 := zSh.at h 59 rfl
theorem zMod.n1038 {S : zS} {p : Int} (h : zMod S p) : zn S (p + 20) = 4 := zSh.at h 60 rfl
theorem zMod.f1039 {S : zS} {p : Int} (h : zMod S p) : zf S p 1039 = p + 21 := by
  have q : zf S (p + 0) 1039 = p + 21 := zSh.at h 61 rfl
  rw [Int.add_zero] at q
  exact q
theorem zMod.a1039 {S : zS} {p : Int} (h : zMod S p) : zk S (p + 21) = 101 := zSh.at h 62 rfl
theorem zMod.n1039 {S : zS} {p : Int} (h : zMod S p) : zn S (p + 21) = 16 := zSh.at h 63 rfl
theorem zMod.f1040 {S : zS} {p : Int} (h : zMod S p) : zf S p 1040 = p + 22 := by
  have q : zf S (p + 0) 1040 = p + 22 := zSh.at h 64 rfl
  rw [Int.add_zero] at q
  exact q
theorem zMod.a1040 {S : zS} {p : Int} (h : zMod S p) : zk S (p + 22) = 101 := zSh.at h 65 rfl
theorem zMod.n1040 {S : zS} {p : Int} (h : zMod S p) : zn S (p + 22) = 4 := zSh.at h 66 rfl
theorem zMod.f1042 {S : zS} {p : Int} (h : zMod S p) : zf S p 1042 = p + 23 := by
  have q : zf S (p + 0) 1042 = p + 23 := zSh.at h 67 rfl
  rw [Int.add_zero] at q
  exact q
theorem zMod.a1042 {S : zS} {p : Int} (h : zMod S p) : zk S (p + 23) = 101 := zSh.at h 68 rfl
theorem zMod.n1042 {S : zS} {p : Int} (h : zMod S p) : zn S (p + 23) = 16 := zSh.at h 69 rfl
theorem zMod.f1043 {S : zS} {p : Int} (h : zMod S p) : zf S p 1043 = p + 24 := by
  have q : zf S (p + 0) 1043 = p + 24 := zSh.at h 70 rfl
  rw [Int.add_zero] at q
  exact q
theorem zMod.a1043 {S : zS} {p : Int} (h : zMod S p) : zk S (p + 24) = 101 := zSh.at h 71 rfl
theorem zMod.n1043 {S : zS} {p : Int} (h : zMod S p) : zn S (p + 24) = 8 := zSh.at h 72 rfl
theorem zMod.f1044 {S : zS} {p : Int} (h : zMod S p) : zf S p 1044 = p + 25 := by
  have q : zf S (p + 0) 1044 = p + 25 := zSh.at h 73 rfl
  rw [Int.add_zero] at q
  exact q
theorem zMod.a1044 {S : zS} {p : Int} (h : zMod S p) : zk S (p + 25) = 101 := zSh.at h 74 rfl
theorem zMod.n1044 {S : zS} {p : Int} (h : zMod S p) : zn S (p + 25) = 4 := zSh.at h 75 rfl
theorem zMod.f1045 {S : zS} {p : Int} (h : zMod S p) : zf S p 1045 = p + 26 := by
  have q : zf S (p + 0) 1045 = p + 26 := zSh.at h 76 rfl
  rw [Int.add_zero] at q
  exact q
theorem zMod.a1045 {S : zS} {p : Int} (h : zMod S p) : zk S (p + 26) = 101 := zSh.at h 77 rfl
theorem zMod.n1045 {S : zS} {p : Int} (h : zMod S p) : zn S (p + 26) = 4 := zSh.at h 78 rfl
theorem zMod.f1046 {S : zS} {p : Int} (h : zMod S p) : zf S p 1046 = p + 27 := by
  have q : zf S (p + 0) 1046 = p + 27 := zSh.at h 79 rfl
  rw [Int.add_zero] at q
  exact q
theorem zMod.a1046 {S : zS} {p : Int} (h : zMod S p) : zk S (p + 27) = 101 := zSh.at h 80 rfl
theorem zMod.n1046 {S : zS} {p : Int} (h : zMod S p) : zn S (p + 27) = 2001 := zSh.at h 81 rfl
theorem zMod.f1047 {S : zS} {p : Int} (h : zMod S p) : zf S p 1047 = p + 28 := by
  have q : zf S (p + 0) 1047 = p + 28 := zSh.at h 82 rfl
  rw [Int.add_zero] at q
  exact q
theorem zMod.a1047 {S : zS} {p : Int} (h : zMod S p) : zk S (p + 28) = 101 := zSh.at h 83 rfl
theorem zMod.n1047 {S : zS} {p : Int} (h : zMod S p) : zn S (p + 28) = 87552 := zSh.at h 84 rfl
theorem zMod.f1048 {S : zS} {p : Int} (h : zMod S p) : zf S p 1048 = p + 29 := by
  have q : zf S (p + 0) 1048 = p + 29 := zSh.at h 85 rfl
  rw [Int.add_zero] at q
  exact q
theorem zMod.a1048 {S : zS} {p : Int} (h : zMod S p) : zk S (p + 29) = 101 := zSh.at h 86 rfl
theorem zMod.n1048 {S : zS} {p : Int} (h : zMod S p) : zn S (p + 29) = 8 := zSh.at h 87 rfl
theorem zMod.f1050 {S : zS} {p : Int} (h : zMod S p) : zf S p 1050 = p + 30 := by
  have q : zf S (p + 0) 1050 = p + 30 := zSh.at h 88 rfl
  rw [Int.add_zero] at q
  exact q
theorem zMod.a1050 {S : zS} {p : Int} (h : zMod S p) : zk S (p + 30) = 101 := zSh.at h 89 rfl
theorem zMod.n1050 {S : zS} {p : Int} (h : zMod S p) : zn S (p + 30) = 256 := zSh.at h 90 rfl
theorem zMod.f1051 {S : zS} {p : Int} (h : zMod S p) : zf S p 1051 = p + 31 := by
  have q : zf S (p + 0) 1051 = p + 31 := zSh.at h 91 rfl
  rw [Int.add_zero] at q
  exact q
theorem zMod.a1051 {S : zS} {p : Int} (h : zMod S p) : zk S (p + 31) = 101 := zSh.at h 92 rfl
theorem zMod.n1051 {S : zS} {p : Int} (h : zMod S p) : zn S (p + 31) = 1300 := zSh.at h 93 rfl
theorem zMod.f1052 {S : zS} {p : Int} (h : zMod S p) : zf S p 1052 = p + 32 := by
  have q : zf S (p + 0) 1052 = p + 32 := zSh.at h 94 rfl
  rw [Int.add_zero] at q
  exact q
theorem zMod.a1052 {S : zS} {p : Int} (h : zMod S p) : zk S (p + 32) = 101 := zSh.at h 95 rfl
theorem zMod.n1052 {S : zS} {p : Int} (h : zMod S p) : zn S (p + 32) = 5 := zSh.at h 96 rfl
theorem zMod.f1054 {S : zS} {p : Int} (h : zMod S p) : zf S p 1054 = p + 33 := by
  have q : zf S (p + 0) 1054 = p + 33 := zSh.at h 97 rfl
  rw [Int.add_zero] at q
  exact q
theorem zMod.a1054 {S : zS} {p : Int} (h : zMod S p) : zk S (p + 33) = 102 := zSh.at h 98 rfl
theorem zMod.n1054 {S : zS} {p : Int} (h : zMod S p) : zn S (p + 33) = 1024 := zSh.at h 99 rfl
theorem zMod.f1055 {S : zS} {p : Int} (h : zMod S p) : zf S p 1055 = p + 34 := by
  have q : zf S (p + 0) 1055 = p + 34 := zSh.at h 100 rfl
  rw [Int.add_zero] at q
  exact q
theorem zMod.a1055 {S : zS} {p : Int} (h : zMod S p) : zk S (p + 34) = 102 := zSh.at h 101 rfl
theorem zMod.n1055 {S : zS} {p : Int} (h : zMod S p) : zn S (p + 34) = 1024 := zSh.at h 102 rfl
theorem zMod.f1057 {S : zS} {p : Int} (h : zMod S p) : zf S p 1057 = p + 35 := by
  have q : zf S (p + 0) 1057 = p + 35 := zSh.at h 103 rfl
  rw [Int.add_zero] at q
  exact q
theorem zMod.a1057 {S : zS} {p : Int} (h : zMod S p) : zk S (p + 35) = 101 := zSh.at h 104 rfl
theorem zMod.n1057 {S : zS} {p : Int} (h : zMod S p) : zn S (p + 35) = 240 := zSh.at h 105 rfl
def zPan_L : List (Nat × Int × Int × Int) := [(0, 0, 1, 0), (2, 0, 0, 1), (0, 1, 103, 0), (1, 1, 640, 0), (2, 0, 4, 2), (0, 2, 2, 0), (2, 0, 5, 3), (0, 3, 115, 0), (1, 3, 7, 0), (2, 0, 6, 4), (0, 4, 115, 0), (1, 4, 10, 0), (2, 0, 8, 14), (0, 14, 4, 0), (2, 14, 300, 15), (0, 15, 101, 0), (1, 15, 400, 0), (2, 14, 301, 16), (0, 16, 101, 0), (1, 16, 400, 0), (2, 14, 302, 17), (0, 17, 101, 0), (1, 17, 400, 0), (2, 14, 303, 18), (0, 18, 101, 0), (1, 18, 400, 0), (2, 14, 304, 19), (0, 19, 101, 0), (1, 19, 400, 0), (2, 0, 9, 20), (0, 20, 4, 0), (2, 20, 300, 21), (0, 21, 101, 0), (1, 21, 400, 0), (2, 20, 301, 22), (0, 22, 101, 0), (1, 22, 400, 0), (2, 20, 302, 23), (0, 23, 101, 0), (1, 23, 400, 0), (2, 20, 303, 24), (0, 24, 101, 0), (1, 24, 400, 0), (2, 20, 304, 25), (0, 25, 101, 0), (1, 25, 400, 0), (2, 0, 10, 26), (0, 26, 5, 0), (2, 0, 11, 27), (0, 27, 6, 0), (2, 0, 14, 28), (0, 28, 103, 0), (1, 28, 8000, 0), (2, 0, 16, 29), (0, 29, 111, 0), (1, 29, 8, 0), (2, 0, 18, 30), (0, 30, 101, 0), (1, 30, 8, 0), (2, 0, 19, 31), (0, 31, 101, 0), (1, 31, 8, 0), (2, 0, 20, 32), (0, 32, 101, 0), (1, 32, 8, 0), (2, 0, 21, 33), (0, 33, 101, 0), (1, 33, 8, 0), (2, 0, 22, 34), (0, 34, 101, 0), (1, 34, 500, 0), (2, 0, 24, 35), (0, 35, 114, 0), (1, 35, 3, 0), (2, 0, 25, 39), (0, 39, 101, 0), (1, 39, 16, 0), (2, 0, 26, 40), (0, 40, 101, 0), (1, 40, 16, 0), (2, 0, 27, 41), (0, 41, 101, 0), (1, 41, 4, 0), (2, 0, 28, 42), (0, 42, 101, 0), (1, 42, 4, 0), (2, 0, 29, 43), (0, 43, 101, 0), (1, 43, 4, 0), (2, 0, 31, 45), (0, 45, 101, 0), (1, 45, 8, 0), (2, 0, 33, 46), (0, 46, 101, 0), (1, 46, 5, 0), (2, 0, 34, 47), (0, 47, 101, 0), (1, 47, 2406, 0), (2, 0, 37, 48), (0, 48, 10, 0), (2, 0, 39, 51), (0, 51, 112, 0), (1, 51, 2, 0), (2, 0, 40, 52), (0, 52, 111, 0), (1, 52, 2, 0), (2, 0, 41, 53), (0, 53, 113, 0), (1, 53, 2, 0), (0, 5, 3, 0), (2, 5, 200, 6), (0, 6, 102, 0), (1, 6, 8, 0), (2, 5, 201, 7), (0, 7, 102, 0), (1, 7, 8, 0), (2, 5, 202, 8), (0, 8, 101, 0), (1, 8, 16, 0), (2, 5, 203, 9), (0, 9, 101, 0), (1, 9, 8, 0), (2, 5, 204, 10), (0, 10, 101, 0), (1, 10, 8, 0), (2, 5, 205, 11), (0, 11, 101, 0), (1, 11, 5, 0), (2, 5, 206, 12), (0, 12, 101, 0), (1, 12, 5, 0), (2, 5, 207, 13), (0, 13, 104, 0), (1, 13, 8, 0), (0, 36, 7, 0), (0, 37, 8, 0), (0, 38, 9, 0), (0, 49, 115, 0), (0, 50, 115, 0), (0, 44, 101, 0), (1, 49, 3, 0), (1, 50, 4, 0), (1, 44, 0, 0), (2, 26, 407, 0), (2, 26, 410, 0), (2, 27, 407, 0), (2, 27, 508, 0), (2, 48, 407, 0), (2, 48, 911, 0), (2, 48, 908, 49), (2, 48, 909, 50)]
def zPan (S : zS) (p : Int) : Prop := zSh S p zPan_L
theorem zPan.k {S : zS} {p : Int} (h : zPan S p) : zk S p = 1 := by
  have q : zk S (p + 0) = 1 := zSh.at h 0 rfl
  rw [Int.add_zero] at q
  exact q
theorem zPan.f0 {S : zS} {p : Int} (h : zPan S p) : zf S p 0 = p + 1 := by
  have q : zf S (p + 0) 0 = p + 1 := zSh.at h 1 rfl
  rw [Int.add_zero] at q
  exact q
theorem zPan.a0 {S : zS} {p : Int} (h : zPan S p) : zk S (p + 1) = 103 := zSh.at h 2 rfl
theorem zPan.n0 {S : zS} {p : Int} (h : zPan S p) : zn S (p + 1) = 640 := zSh.at h 3 rfl
theorem zPan.f4 {S : zS} {p : Int} (h : zPan S p) : zf S p 4 = p + 2 := by
  have q : zf S (p + 0) 4 = p + 2 := zSh.at h 4 rfl
  rw [Int.add_zero] at q
  exact q
theorem zPan.o4 {S : zS} {p : Int} (h : zPan S p) : zk S (p + 2) = 2 := zSh.at h 5 rfl
theorem zPan.f5 {S : zS} {p : Int} (h : zPan S p) : zf S p 5 = p + 3 := by
  have q : zf S (p + 0) 5 = p + 3 := zSh.at h 6 rfl
  rw [Int.add_zero] at q
  exact q
theorem zPan.a5 {S : zS} {p : Int} (h : zPan S p) : zk S (p + 3) = 115 := zSh.at h 7 rfl
theorem zPan.n5 {S : zS} {p : Int} (h : zPan S p) : zn S (p + 3) = 7 := zSh.at h 8 rfl
theorem zPan.f6 {S : zS} {p : Int} (h : zPan S p) : zf S p 6 = p + 4 := by
  have q : zf S (p + 0) 6 = p + 4 := zSh.at h 9 rfl
  rw [Int.add_zero] at q
  exact q
theorem zPan.a6 {S : zS} {p : Int} (h : zPan S p) : zk S (p + 4) = 115 := zSh.at h 10 rfl
theorem zPan.n6 {S : zS} {p : Int} (h : zPan S p) : zn S (p + 4) = 10 := zSh.at h 11 rfl
theorem zPan.f8 {S : zS} {p : Int} (h : zPan S p) : zf S p 8 = p + 14 := by
  have q : zf S (p + 0) 8 = p + 14 := zSh.at h 12 rfl
  rw [Int.add_zero] at q
  exact q
theorem zPan.f9 {S : zS} {p : Int} (h : zPan S p) : zf S p 9 = p + 20 := by
  have q : zf S (p + 0) 9 = p + 20 := zSh.at h 29 rfl
  rw [Int.add_zero] at q
  exact q
theorem zPan.f10 {S : zS} {p : Int} (h : zPan S p) : zf S p 10 = p + 26 := by
  have q : zf S (p + 0) 10 = p + 26 := zSh.at h 46 rfl
  rw [Int.add_zero] at q
  exact q
theorem zPan.o10 {S : zS} {p : Int} (h : zPan S p) : zk S (p + 26) = 5 := zSh.at h 47 rfl
theorem zPan.f11 {S : zS} {p : Int} (h : zPan S p) : zf S p 11 = p + 27 := by
  have q : zf S (p + 0) 11 = p + 27 := zSh.at h 48 rfl
  rw [Int.add_zero] at q
  exact q
theorem zPan.o11 {S : zS} {p : Int} (h : zPan S p) : zk S (p + 27) = 6 := zSh.at h 49 rfl
theorem zPan.f14 {S : zS} {p : Int} (h : zPan S p) : zf S p 14 = p + 28 := by
  have q : zf S (p + 0) 14 = p + 28 := zSh.at h 50 rfl
  rw [Int.add_zero] at q
  exact q
theorem zPan.a14 {S : zS} {p : Int} (h : zPan S p) : zk S (p + 28) = 103 := zSh.at h 51 rfl
theorem zPan.n14 {S : zS} {p : Int} (h : zPan S p) : zn S (p + 28) = 8000 := zSh.at h 52 rfl
theorem zPan.f16 {S : zS} {p : Int} (h : zPan S p) : zf S p 16 = p + 29 := by
  have q : zf S (p + 0) 16 = p + 29 := zSh.at h 53 rfl
  rw [Int.add_zero] at q
  exact q
theorem zPan.a16 {S : zS} {p : Int} (h : zPan S p) : zk S (p + 29) = 111 := zSh.at h 54 rfl
theorem zPan.n16 {S : zS} {p : Int} (h : zPan S p) : zn S (p + 29) = 8 := zSh.at h 55 rfl
theorem zPan.f18 {S : zS} {p : Int} (h : zPan S p) : zf S p 18 = p + 30 := by
  have q : zf S (p + 0) 18 = p + 30 := zSh.at h 56 rfl
  rw [Int.add_zero] at q
  exact q
theorem zPan.a18 {S : zS} {p : Int} (h : zPan S p) : zk S (p + 30) = 101 := zSh.at h 57 rfl
theorem zPan.n18 {S : zS} {p : Int} (h : zPan S p) : zn S (p + 30) = 8 := zSh.at h 58 rfl
theorem zPan.f19 {S : zS} {p : Int} (h : zPan S p) : zf S p 19 = p + 31 := by
  have q : zf S (p + 0) 19 = p + 31 := zSh.at h 59 rfl
  rw [Int.add_zero] at q
  exact q
theorem zPan.a19 {S : zS} {p : Int} (h : zPan S p) : zk S (p + 31) = 101 := zSh.at h 60 rfl
theorem zPan.n19 {S : zS} {p : Int} (h : zPan S p) : zn S (p + 31) = 8 := zSh.at h 61 rfl
theorem zPan.f20 {S : zS} {p : Int} (h : zPan S p) : zf S p 20 = p + 32 := by
  have q : zf S (p + 0) 20 = p + 32 := zSh.at h 62 rfl
  rw [Int.add_zero] at q
  exact q
theorem zPan.a20 {S : zS} {p : Int} (h : zPan S p) : zk S (p + 32) = 101 := zSh.at h 63 rfl
theorem zPan.n20 {S : zS} {p : Int} (h : zPan S p) : zn S (p + 32) = 8 := zSh.at h 64 rfl
theorem zPan.f21 {S : zS} {p : Int} (h : zPan S p) : zf S p 21 = p + 33 := by
  have q : zf S (p + 0) 21 = p + 33 := zSh.at h 65 rfl
  rw [Int.add_zero] at q
  exact q
theorem zPan.a21 {S : zS} {p : Int} (h : zPan S p) : zk S (p + 33) = 101 := zSh.at h 66 rfl
theorem zPan.n21 {S : zS} {p : Int} (h : zPan S p) : zn S (p + 33) = 8 := zSh.at h 67 rfl
theorem zPan.f22 {S : zS} {p : Int} (h : zPan S p) : zf S p 22 = p + 34 := by
  have q : zf S (p + 0) 22 = p + 34 := zSh.at h 68 rfl
  rw [Int.add_zero] at q
  exact q
theorem zPan.a22 {S : zS} {p : Int} (h : zPan S p) : zk S (p + 34) = 101 := zSh.at h 69 rfl
theorem zPan.n22 {S : zS} {p : Int} (h : zPan S p) : zn S (p + 34) = 500 := zSh.at h 70 rfl
theorem zPan.f24 {S : zS} {p : Int} (h : zPan S p) : zf S p 24 = p + 35 := by
  have q : zf S (p + 0) 24 = p + 35 := zSh.at h 71 rfl
  rw [Int.add_zero] at q
  exact q
theorem zPan.a24 {S : zS} {p : Int} (h : zPan S p) : zk S (p + 35) = 114 := zSh.at h 72 rfl
theorem zPan.n24 {S : zS} {p : Int} (h : zPan S p) : zn S (p + 35) = 3 := zSh.at h 73 rfl
theorem zPan.f25 {S : zS} {p : Int} (h : zPan S p) : zf S p 25 = p + 39 := by
  have q : zf S (p + 0) 25 = p + 39 := zSh.at h 74 rfl
  rw [Int.add_zero] at q
  exact q
theorem zPan.a25 {S : zS} {p : Int} (h : zPan S p) : zk S (p + 39) = 101 := zSh.at h 75 rfl
theorem zPan.n25 {S : zS} {p : Int} (h : zPan S p) : zn S (p + 39) = 16 := zSh.at h 76 rfl
theorem zPan.f26 {S : zS} {p : Int} (h : zPan S p) : zf S p 26 = p + 40 := by
  have q : zf S (p + 0) 26 = p + 40 := zSh.at h 77 rfl
  rw [Int.add_zero] at q
  exact q
theorem zPan.a26 {S : zS} {p : Int} (h : zPan S p) : zk S (p + 40) = 101 := zSh.at h 78 rfl
theorem zPan.n26 {S : zS} {p : Int} (h : zPan S p) : zn S (p + 40) = 16 := zSh.at h 79 rfl
theorem zPan.f27 {S : zS} {p : Int} (h : zPan S p) : zf S p 27 = p + 41 := by
  have q : zf S (p + 0) 27 = p + 41 := zSh.at h 80 rfl
  rw [Int.add_zero] at q
  exact q
theorem zPan.a27 {S : zS} {p : Int} (h : zPan S p) : zk S (p + 41) = 101 := zSh.at h 81 rfl
theorem zPan.n27 {S : zS} {p : Int} (h : zPan S p) : zn S (p + 41) = 4 := zSh.at h 82 rfl
theorem zPan.f28 {S : zS} {p : Int} (h : zPan S p) : zf S p 28 = p + 42 := by
  have q : zf S (p + 0) 28 = p + 42 := zSh.at h 83 rfl
  rw [Int.add_zero] at q
  exact q
theorem zPan.a28 {S : zS} {p : Int} (h : zPan S p) : zk S (p + 42) = 101 := zSh.at h 84 rfl
theorem zPan.n28 {S : zS} {p : Int} (h : zPan S p) : zn S (p + 42) = 4 := zSh.at h 85 rfl
theorem zPan.f29 {S : zS} {p : Int} (h : zPan S p) : zf S p 29 = p + 43 := by
  have q : zf S (p + 0) 29 = p + 43 := zSh.at h 86 rfl
  rw [Int.add_zero] at q
  exact q
theorem zPan.a29 {S : zS} {p : Int} (h : zPan S p) : zk S (p + 43) = 101 := zSh.at h 87 rfl
theorem zPan.n29 {S : zS} {p : Int} (h : zPan S p) : zn S (p + 43) = 4 := zSh.at h 88 rfl
theorem zPan.f31 {S : zS} {p : Int} (h : zPan S p) : zf S p 31 = p + 45 := by
  have q : zf S (p + 0) 31 = p + 45 := zSh.at h 89 rfl
  rw [Int.add_zero] at q
  exact q
theorem zPan.a31 {S : zS} {p : Int} (h : zPan S p) : zk S (p + 45) = 101 := zSh.at h 90 rfl
theorem zPan.n31 {S : zS} {p : Int} (h : zPan S p) : zn S (p + 45) = 8 := zSh.at h 91 rfl
theorem zPan.f33 {S : zS} {p : Int} (h : zPan S p) : zf S p 33 = p + 46 := by
  have q : zf S (p + 0) 33 = p + 46 := zSh.at h 92 rfl
  rw [Int.add_zero] at q
  exact q
theorem zPan.a33 {S : zS} {p : Int} (h : zPan S p) : zk S (p + 46) = 101 := zSh.at h 93 rfl
theorem zPan.n33 {S : zS} {p : Int} (h : zPan S p) : zn S (p + 46) = 5 := zSh.at h 94 rfl
theorem zPan.f34 {S : zS} {p : Int} (h : zPan S p) : zf S p 34 = p + 47 := by
  have q : zf S (p + 0) 34 = p + 47 := zSh.at h 95 rfl
  rw [Int.add_zero] at q
  exact q
theorem zPan.a34 {S : zS} {p : Int} (h : zPan S p) : zk S (p + 47) = 101 := zSh.at h 96 rfl
theorem zPan.n34 {S : zS} {p : Int} (h : zPan S p) : zn S (p + 47) = 2406 := zSh.at h 97 rfl
theorem zPan.f37 {S : zS} {p : Int} (h : zPan S p) : zf S p 37 = p + 48 := by
  have q : zf S (p + 0) 37 = p + 48 := zSh.at h 98 rfl
  rw [Int.add_zero] at q
  exact q
theorem zPan.o37 {S : zS} {p : Int} (h : zPan S p) : zk S (p + 48) = 10 := zSh.at h 99 rfl
theorem zPan.f39 {S : zS} {p : Int} (h : zPan S p) : zf S p 39 = p + 51 := by
  have q : zf S (p + 0) 39 = p + 51 := zSh.at h 100 rfl
  rw [Int.add_zero] at q
  exact q
theorem zPan.a39 {S : zS} {p : Int} (h : zPan S p) : zk S (p + 51) = 112 := zSh.at h 101 rfl
theorem zPan.n39 {S : zS} {p : Int} (h : zPan S p) : zn S (p + 51) = 2 := zSh.at h 102 rfl
theorem zPan.f40 {S : zS} {p : Int} (h : zPan S p) : zf S p 40 = p + 52 := by
  have q : zf S (p + 0) 40 = p + 52 := zSh.at h 103 rfl
  rw [Int.add_zero] at q
  exact q
theorem zPan.a40 {S : zS} {p : Int} (h : zPan S p) : zk S (p + 52) = 111 := zSh.at h 104 rfl
theorem zPan.n40 {S : zS} {p : Int} (h : zPan S p) : zn S (p + 52) = 2 := zSh.at h 105 rfl
theorem zPan.f41 {S : zS} {p : Int} (h : zPan S p) : zf S p 41 = p + 53 := by
  have q : zf S (p + 0) 41 = p + 53 := zSh.at h 106 rfl
  rw [Int.add_zero] at q
  exact q
theorem zPan.a41 {S : zS} {p : Int} (h : zPan S p) : zk S (p + 53) = 113 := zSh.at h 107 rfl
theorem zPan.n41 {S : zS} {p : Int} (h : zPan S p) : zn S (p + 53) = 2 := zSh.at h 108 rfl
theorem zPan.k36 {S : zS} {p : Int} (h : zPan S p) : zk S (p + 36) = 7 := zSh.at h 134 rfl
theorem zPan.k37 {S : zS} {p : Int} (h : zPan S p) : zk S (p + 37) = 8 := zSh.at h 135 rfl
theorem zPan.k38 {S : zS} {p : Int} (h : zPan S p) : zk S (p + 38) = 9 := zSh.at h 136 rfl
theorem zPan.k49 {S : zS} {p : Int} (h : zPan S p) : zk S (p + 49) = 115 := zSh.at h 137 rfl
theorem zPan.k50 {S : zS} {p : Int} (h : zPan S p) : zk S (p + 50) = 115 := zSh.at h 138 rfl
theorem zPan.k44 {S : zS} {p : Int} (h : zPan S p) : zk S (p + 44) = 101 := zSh.at h 139 rfl
theorem zPan.n49 {S : zS} {p : Int} (h : zPan S p) : zn S (p + 49) = 3 := zSh.at h 140 rfl
theorem zPan.n50 {S : zS} {p : Int} (h : zPan S p) : zn S (p + 50) = 4 := zSh.at h 141 rfl
theorem zPan.n44 {S : zS} {p : Int} (h : zPan S p) : zn S (p + 44) = 0 := zSh.at h 142 rfl
theorem zPan.r26 {S : zS} {p : Int} (h : zPan S p) : zf S (p + 26) 407 = p := by
  have q : zf S (p + 26) 407 = p + 0 := zSh.at h 143 rfl
  rw [Int.add_zero] at q
  exact q
theorem zPan.s26 {S : zS} {p : Int} (h : zPan S p) : zf S (p + 26) 410 = p := by
  have q : zf S (p + 26) 410 = p + 0 := zSh.at h 144 rfl
  rw [Int.add_zero] at q
  exact q
theorem zPan.r27 {S : zS} {p : Int} (h : zPan S p) : zf S (p + 27) 407 = p := by
  have q : zf S (p + 27) 407 = p + 0 := zSh.at h 145 rfl
  rw [Int.add_zero] at q
  exact q
theorem zPan.s27 {S : zS} {p : Int} (h : zPan S p) : zf S (p + 27) 508 = p := by
  have q : zf S (p + 27) 508 = p + 0 := zSh.at h 146 rfl
  rw [Int.add_zero] at q
  exact q
theorem zPan.r48 {S : zS} {p : Int} (h : zPan S p) : zf S (p + 48) 407 = p := by
  have q : zf S (p + 48) 407 = p + 0 := zSh.at h 147 rfl
  rw [Int.add_zero] at q
  exact q
theorem zPan.s48 {S : zS} {p : Int} (h : zPan S p) : zf S (p + 48) 911 = p := by
  have q : zf S (p + 48) 911 = p + 0 := zSh.at h 148 rfl
  rw [Int.add_zero] at q
  exact q
theorem zPan.m48 {S : zS} {p : Int} (h : zPan S p) : zf S (p + 48) 908 = p + 49 := zSh.at h 149 rfl
theorem zPan.c48 {S : zS} {p : Int} (h : zPan S p) : zf S (p + 48) 909 = p + 50 := zSh.at h 150 rfl
theorem zPan.o8 {S : zS} {p : Int} (h : zPan S p) : zPlan S (p + 14) := zSh.shift h (by decide +kernel)
theorem zPan.o9 {S : zS} {p : Int} (h : zPan S p) : zPlan S (p + 20) := zSh.shift h (by decide +kernel)
theorem zPan.kit {S : zS} {p : Int} (h : zPan S p) : zKit S (p + 5) := zSh.shift h (by decide +kernel)
