/-! THE JUDGEMENT zT: from a method's frame at pc, with locals V, stack st, world S, mm, and room for k cells of n slots, the method ends as Q (returned) or X (thrown) say -/
abbrev zM : Type := MethodName × ByteArray × Nat × Option FieldType × List (Nat × Nat × Nat × Nat)
abbrev zQt : Type := Option Value → zS → zMm → Prop
abbrev zXt : Type := String → Int → zS → zMm → Prop
def zrm (d K N : Nat) : Room := { frames := d, cells := K, slots := N, locals := 64 * d }
def zLw (G : zG) (H : Heap) : Prop := gz G ≤ H.size ∧ ∀ q : Nat, q < gz G → H[q]? = (gs G).heap[q]?
def zQc (G : zG) (Q : zQt) : Array Value → State → Outcome → State → Prop := fun _ _ o t => ∃ (v : Option Value) (S : zS) (m : zMm), o = .returned v ∧ Q v S m ∧ zRep G S m t.heap ∧ zLw G t.heap
def zXc (G : zG) (X : zXt) : String → Addr → State → State → Prop := fun E q _ t => ∃ (S : zS) (m : zMm), X E (q : Nat) S m ∧ zRep G S m t.heap ∧ zLw G t.heap
def zFx (G : zG) (M : zM) (p : Program) (s : State) (m : MethodId) (args : Array Value) (meth : Method) (c : Code) : Prop :=
  p.tables.exec = Jvm.exec ∧ c.code = M.2.1 ∧ c.maxLocals = M.2.2.1 ∧ meth.sig.returnType = M.2.2.2.1 ∧ meth.locks = false ∧ s.vm.findClass M.1.cls = some m.cls ∧ meth.name = M.1.name ∧
  (∀ w ∈ lw_all, w.before args s = true) ∧ (zOK G ∧ (gs G).WarmedH s.vm) ∧ c.exceptionTable.toList = tableOf M.2.2.2.2 ∧ zLw G s.heap
def zL (ls : Array Slot) (nL : Nat) (V : List Value) : Prop := ls.size = nL ∧ lv_wf ls ∧ ∀ (i : Nat) (v : Value), V[i]? = some v → v ≠ zU → ls[i]? = some (.val v)
def zT (G : zG) (M : zM) (d pc : Nat) (V st : List Value) (S : zS) (mm : zMm) (k n : Nat) (Q : zQt) (X : zXt) : Prop :=
  ∀ (p : Program) (e : Env) (s : State) (m : MethodId) (args : Array Value) (below : List Frame) (meth : Method) (c : Code) (H : Heap) (locs : List Loc) (cells slots K N : Nat) (ls : Array Slot),
    zFx G M p s m args meth c → zRep G S mm H → zLw G H → (∀ q ∈ locs, zfr G q.base) → cells + k ≤ K → slots + n ≤ N → zL ls M.2.2.1 V →
    W p (gl G) e (zrm d K N) s m args below meth c H locs cells slots (vx_MQ below (zQc G Q) (zXc G X) args s K N (zfr G)) (F0 m pc ls st)
/-- a cell q of class E thrown at pc -/
def zTX (G : zG) (M : zM) (d pc : Nat) (V : List Value) (E : String) (q : Int) (S : zS) (mm : zMm) (k n : Nat) (Q : zQt) (X : zXt) : Prop :=
  ∀ (p : Program) (e : Env) (s : State) (m : MethodId) (args : Array Value) (below : List Frame) (meth : Method) (c : Code) (H : Heap) (locs : List Loc) (cells slots K N : Nat) (ls : Array Slot) (a : Nat) (ce : Cell) (rest : List Value),
    zFx G M p s m args meth c → zRep G S mm H → zLw G H → (∀ q ∈ locs, zfr G q.base) → cells + k ≤ K → slots + n ≤ N → zL ls M.2.2.1 V → q = a → H[a]? = some ce → ce.vm = .none → s.vm.findClass E = some ce.cls →
    vx_W p (gl G) e (zrm d K N) s m args below meth c H locs cells slots (vx_MQ below (zQc G Q) (zXc G X) args s K N (zfr G)) (F0 m pc ls rest) a
def zws (M : zM) : List Cond := match M.2.2.2.2 with
  | [] => ws_ M.1 M.2.1 M.2.2.1 M.2.2.2.1
  | h :: hh => wsW_ M.1 M.2.1 M.2.2.1 M.2.2.2.1 (h :: hh)
/-- a method's contract: called with As in the world S, mm -/
def zC (G : zG) (M : zM) (d K N : Nat) (As : List Value) (S : zS) (mm : zMm) (Q : zQt) (X : zXt) : Prop :=
  vx_Met (gl G) M.1 (zws M) (zrm d K N) (va_Pc As (fun U => zOK G ∧ (gs G).WarmedH U.vm ∧ zLw G U.heap ∧ zRep G S mm U.heap)) (zQc G Q) (zXc G X) K N (zfr G)
def zNX : zXt := fun _ _ _ _ => False
def zDet (v : Option Value) (S : zS) (m : zMm) : zQt := fun v' S' m' => v' = v ∧ S' = S ∧ m' = m
/-! locals -/
theorem zcI (x : Int) : (zI x).category = 1 := rfl
theorem zcJ (x : Int) : (zJ x).category = 2 := rfl
theorem zcR (x : Int) : (zR x).category = 1 := by unfold zR; split <;> rfl
theorem zUI {x : Int} : zI x ≠ zU := by unfold zI zU; intro h; cases h
theorem zUJ {x : Int} : zJ x ≠ zU := by unfold zJ zU; intro h; cases h
theorem zUR {x : Int} : zR x ≠ zU := by unfold zR zU; split <;> (intro h; cases h)
def zen (V : List Value) : List (Nat × Value) := ((List.range V.length).map fun i => (i, V.getD i zU)).filter (fun q => decide (q.2 ≠ zU))
theorem zen_mem {V : List Value} {i : Nat} {v : Value} : (i, v) ∈ zen V ↔ V[i]? = some v ∧ v ≠ zU := by
  unfold zen
  rw [List.mem_filter, List.mem_map]
  constructor
  · rintro ⟨⟨j, hj, he⟩, h2⟩
    cases he
    have hj' : i < V.length := List.mem_range.mp hj
    refine ⟨?_, by simpa using h2⟩
    rw [List.getD_eq_getElem?_getD, List.getElem?_eq_getElem hj']
    rfl
  · rintro ⟨h1, h2⟩
    have hj := (List.getElem?_eq_some_iff.mp h1).1
    refine ⟨⟨i, List.mem_range.mpr hj, ?_⟩, by simpa using h2⟩
    rw [List.getD_eq_getElem?_getD, h1]
    rfl
theorem zL.has {ls : Array Slot} {nL : Nat} {V : List Value} (h : zL ls nL V) : lv_has ls nL (zen V) :=
  ⟨h.1, h.2.1, fun q hq => by
    obtain ⟨i, v⟩ := q
    obtain ⟨h1, h2⟩ := zen_mem.mp hq
    exact h.2.2 i v h1 h2⟩
/-- what stands ahead of place i is no long -/
def zpre (V : List Value) (i : Nat) : Prop := ∀ (j : Nat) (u : Value), i = j + 1 → V[j]? = some u → u ≠ zU → u.category = 1
theorem zpre0 {V : List Value} : zpre V 0 := fun j u h => by omega
theorem zpreU {V : List Value} {j : Nat} (h : V[j]? = some zU) : zpre V (j + 1) := fun j' u e h1 h2 => by
  have : j' = j := by omega
  subst this
  rw [h] at h1
  exact absurd (Option.some.inj h1).symm h2
theorem zpre1 {V : List Value} {j : Nat} {u : Value} (h : V[j]? = some u) (hc : u.category = 1) : zpre V (j + 1) := fun j' u' e h1 h2 => by
  have : j' = j := by omega
  subst this
  rw [h] at h1
  rw [← Option.some.inj h1]
  exact hc
theorem zL.set1 {ls' : Array Slot} {nL i : Nat} {V : List Value} {v : Value} (hp : zpre V i) (h : lv_has ls' nL ((i, v) :: (zen V).filter (fun q => !(q.1 == i) && !(q.1 + 1 == i && q.2.category == 2)))) : zL ls' nL (V.set i v) := by
  refine ⟨h.1, h.2.1, fun j u h1 h2 => ?_⟩
  by_cases hj : j = i
  · subst hj
    have hlt : j < V.length := by
      have := (List.getElem?_eq_some_iff.mp h1).1
      simpa using this
    rw [List.getElem?_set_self hlt] at h1
    rw [← Option.some.inj h1]
    exact h.2.2 (j, v) List.mem_cons_self
  · rw [List.getElem?_set_ne (fun q => hj q.symm)] at h1
    refine h.2.2 (j, u) (List.mem_cons_of_mem _ (List.mem_filter.mpr ⟨zen_mem.mpr ⟨h1, h2⟩, ?_⟩))
    have e1 : (j == i) = false := by simpa using hj
    simp only [e1, Bool.not_false, Bool.true_and]
    by_cases hji : j + 1 = i
    · have hc := hp j u hji.symm h1 h2
      simp [hc]
    · simp [hji]
theorem zL.set2 {ls' : Array Slot} {nL i : Nat} {V : List Value} {v : Value} (hp : zpre V i) (h : lv_has ls' nL ((i, v) :: (zen V).filter (fun q => !(q.1 == i) && (!(q.1 == i + 1) && !(q.1 + 1 == i && q.2.category == 2))))) : zL ls' nL ((V.set i v).set (i + 1) zU) := by
  refine ⟨h.1, h.2.1, fun j u h1 h2 => ?_⟩
  by_cases hj1 : j = i + 1
  · subst hj1
    have hlt : i + 1 < V.length := by
      have := (List.getElem?_eq_some_iff.mp h1).1
      simpa using this
    rw [List.getElem?_set_self (by simpa using hlt)] at h1
    exact absurd (Option.some.inj h1).symm h2
  · rw [List.getElem?_set_ne (fun q => hj1 q.symm)] at h1
    by_cases hj : j = i
    · subst hj
      have hlt : j < V.length := by
        have := (List.getElem?_eq_some_iff.mp h1).1
        simpa using this
      rw [List.getElem?_set_self hlt] at h1
      rw [← Option.some.inj h1]
      exact h.2.2 (j, v) List.mem_cons_self
    · rw [List.getElem?_set_ne (fun q => hj q.symm)] at h1
      refine h.2.2 (j, u) (List.mem_cons_of_mem _ (List.mem_filter.mpr ⟨zen_mem.mpr ⟨h1, h2⟩, ?_⟩))
      have e1 : (j == i) = false := by simpa using hj
      have e2 : (j == i + 1) = false := by simpa using hj1
      simp only [e1, e2, Bool.not_false, Bool.true_and]
      by_cases hji : j + 1 = i
      · have hc := hp j u hji.symm h1 h2
        simp [hc]
      · simp [hji]
/-- fewer known locals -/
def zSub : List Value → List Value → Prop
  | _, [] => True
  | v :: V, w :: W' => (w = zU ∨ w = v) ∧ zSub V W'
  | [], _ :: _ => False
theorem zSub.at : ∀ {V W' : List Value}, zSub V W' → ∀ (i : Nat) (v : Value), W'[i]? = some v → v ≠ zU → V[i]? = some v
  | _, [], _, i, v, h, _ => by simp at h
  | [], _ :: _, hs, _, _, _, _ => hs.elim
  | u :: V, w :: W', hs, i, v, h, hv => by
    cases i with
    | zero =>
      rw [List.getElem?_cons_zero] at h ⊢
      cases h
      rcases hs.1 with h1 | h1
      · exact absurd h1 hv
      · rw [h1]
    | succ i =>
      rw [List.getElem?_cons_succ] at h ⊢
      exact zSub.at hs.2 i v h hv
theorem zSub.rf : ∀ {V : List Value}, zSub V V
  | [] => trivial
  | _ :: _ => ⟨Or.inr rfl, zSub.rf⟩
/-- the locals at a method's start -/
def zEn : List Value → List Value → Prop
  | [], V => ∀ v ∈ V, v = zU
  | a :: As, V => (a.category = 1 ∧ ∃ V', V = a :: V' ∧ zEn As V') ∨ (a.category = 2 ∧ ∃ V', V = a :: zU :: V' ∧ zEn As V')
theorem zEn0 {V : List Value} (h : ∀ v ∈ V, v = zU) : zEn [] V := h
theorem zEn1 {a : Value} {As V : List Value} (h : a.category = 1) (h2 : zEn As V) : zEn (a :: As) (a :: V) := Or.inl ⟨h, V, rfl, h2⟩
theorem zEn2 {a : Value} {As V : List Value} (h : a.category = 2) (h2 : zEn As V) : zEn (a :: As) (a :: zU :: V) := Or.inr ⟨h, V, rfl, h2⟩
theorem zEn.len : ∀ {As V : List Value}, zEn As V → (lg_sl As).length ≤ V.length
  | [], V, _ => by simp [lg_sl]
  | a :: As, V, h => by
    rcases h with ⟨h1, V', rfl, h2⟩ | ⟨h1, V', rfl, h2⟩
    · have := zEn.len h2
      simp only [lg_sl, List.flatMap_cons, List.length_append, List.length_cons] at this ⊢
      rw [if_neg (by omega)]
      simp only [List.length_cons, List.length_nil]
      omega
    · have := zEn.len h2
      simp only [lg_sl, List.flatMap_cons, List.length_append, List.length_cons] at this ⊢
      rw [if_pos h1]
      simp only [List.length_cons, List.length_nil]
      omega
theorem zEn.arg : ∀ {As V : List Value} (b : Nat), zEn As V → ∀ (i : Nat) (v : Value), V[i]? = some v → v ≠ zU → (b + i, v) ∈ lv_args b As
  | [], V, b, h, i, v, h1, h2 => absurd (h v (List.mem_of_getElem? h1)) h2
  | a :: As, V, b, h, i, v, h1, h2 => by
    rcases h with ⟨hc, V', rfl, h3⟩ | ⟨hc, V', rfl, h3⟩
    · rw [lv_args, if_neg (by omega)]
      cases i with
      | zero =>
        cases h1
        exact List.mem_cons_self
      | succ i =>
        rw [List.getElem?_cons_succ] at h1
        have := zEn.arg (b + 1) h3 i v h1 h2
        rw [show b + (i + 1) = b + 1 + i by omega]
        exact List.mem_cons_of_mem _ this
    · rw [lv_args, if_pos hc]
      match i, h1 with
      | 0, h1 =>
        cases h1
        exact List.mem_cons_self
      | 1, h1 =>
        rw [List.getElem?_cons_succ, List.getElem?_cons_zero] at h1
        exact absurd (Option.some.inj h1).symm h2
      | i + 2, h1 =>
        rw [List.getElem?_cons_succ, List.getElem?_cons_succ] at h1
        have := zEn.arg (b + 2) h3 i v h1 h2
        rw [show b + (i + 2) = b + 2 + i by omega]
        exact List.mem_cons_of_mem _ this
