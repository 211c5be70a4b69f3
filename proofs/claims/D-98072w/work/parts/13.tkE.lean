/-! FIELDS -/
def zFl (own : String) (idx : Nat) (i : Int) : Prop := ∃ ref : String, (Cond.fieldLink own idx ref (zfo i).2.1 (zfo i).2.2.1 ∈ lw_all ∨ ∃ host : String, Cond.fieldLinkNest own idx ref (zfo i).2.1 (zfo i).2.2.1 host ∈ lw_tbl) ∧ (ref = (zfo i).1 ∨ Cond.sameField ref (zfo i).1 (zfo i).2.1 (zfo i).2.2.1 ∈ lw_all)
theorem zFl.mk {own o nm ds : String} {f : Bool} {idx : Nat} {i : Int} (e : zfo i = (o, nm, ds, f)) (h : Cond.fieldLink own idx o nm ds ∈ lw_all) : zFl own idx i := by
  refine ⟨o, Or.inl ?_, Or.inl ?_⟩ <;> rw [e]
  exact h
theorem zFl.nest {own o nm ds host : String} {f : Bool} {idx : Nat} {i : Int} (e : zfo i = (o, nm, ds, f)) (h : Cond.fieldLinkNest own idx o nm ds host ∈ lw_tbl) : zFl own idx i := by
  refine ⟨o, Or.inr ⟨host, ?_⟩, Or.inl ?_⟩ <;> rw [e]
  exact h
theorem zFl.same {own o nm ds ref : String} {f : Bool} {idx : Nat} {i : Int} (e : zfo i = (o, nm, ds, f)) (h : Cond.fieldLink own idx ref nm ds ∈ lw_all) (h2 : Cond.sameField ref o nm ds ∈ lw_all) : zFl own idx i := by
  refine ⟨ref, Or.inl ?_, Or.inr ?_⟩ <;> rw [e]
  · exact h
  · exact h2
theorem zcl_of {ci j : Nat} (hj : j < zN ci) : ∃ r, zcl[ci]? = some r := by
  rcases Nat.lt_or_ge ci 16 with hl | hl
  · exact ⟨_, List.getElem?_eq_getElem (show ci < zcl.length from hl)⟩
  · have : zN ci = 0 := by
      unfold zN
      rw [List.getD_eq_getElem?_getD, List.getElem?_eq_none (by exact hl)]
      rfl
    omega
theorem zKs {G : zG} {s : State} (h : zOK G) (hW : (gs G).WarmedH s.vm) : va_K (gD G) zcl [] s := va_K.moved hW.alike h.2.1
theorem zNwF {G : zG} {s : State} {args : Array Value} {a b nm ds host : String} {i : Nat} (h : zOK G) (hW : (gs G).WarmedH s.vm) (hm : Cond.fieldLinkNest a i b nm ds host ∈ lw_tbl) : (Cond.fieldLinkNest a i b nm ds host).before args s = true :=
  va_Nw.use rfl (va_Nw.warmF hW (va_Nw.of rfl (h.1 _ hm)))
theorem zNwM {G : zG} {s : State} {a host : String} {i : Nat} {y : MethodName} (h : zOK G) (hW : (gs G).WarmedH s.vm) (hm : Cond.methodLinkNest a i y host ∈ lw_tbl) : va_Nw (.methodLinkNest a i y host) s :=
  va_Nw.warmM hW (va_Nw.of rfl (h.1 _ hm))
section
variable {G : zG} {M : zM} {d pc : Nat} {V st : List Value} {S : zS} {mm : zMm} {k n : Nat} {Q : zQt} {X : zXt}
theorem zT.getf {a i : Int} {idx ci j : Nat} {v : Value} (hd : decode M.2.1 pc = .ok (.getfield idx, 3)) (hl : zFl M.1.cls idx i) (hk : zk S a = ci + 1) (hj : j < zN ci) (hi : zid ci j = i) (hv : zfv S mm a i = v) (kk : zwf (ci + 1) i (mm a i) → zT G M d (pc + 3) V (v :: st) S mm k n Q X) : zT G M d pc V (zR a :: st) S mm k n Q X := by
  intro p e s m args below meth c H locs cells slots K N ls F hR hW hlo hc hs hV
  obtain ⟨q, rfl, hq1, hq2⟩ := hR.at (a := a) (by omega)
  obtain ⟨r, hr⟩ := zcl_of hj
  have hKs := zKs F.2.2.2.2.2.2.2.2.1.1 F.2.2.2.2.2.2.2.2.1.2
  obtain ⟨hS, hfc, kC, hkC, hkind⟩ := hKs.1 ci r hr
  have hj' : j < r.2.2 := by rw [zcl_N hr]; exact hj
  obtain ⟨cell, q1, q2, q3, q4⟩ := hR.2.2.1 q ci r hk hr
  obtain ⟨cf, kf, fi, f, hfi, hsl⟩ := hS j hj'
  have hts := F.2.2.2.2.2.2.2.1
  have hst := (u_facts hfc hkC (u_lays hts (zcl_in hr) hj') hfi).1
  have hfo := zcl_fo hr hj'
  rw [hi] at hfo
  obtain ⟨ref, hlk, hsm⟩ := hl
  have hfi2 : s.fieldFound? ref (zfo i).2.1 (zfo i).2.2.1 = some (cf, kf, fi, f) := by
    rw [hfo] at hfi
    rcases hsm with h | h
    · rw [h]; exact hfi
    · exact u_same (hts _ h) _ hfi
  have hslot : cell.slots[f.slot]? = some v := by
    rw [hsl, q4 j hj', ← hv]
    show some (zfv S mm q (zid ci j)) = _
    rw [hi]
  have hkn : cell.vm ≠ .unknown := by rw [q3]; exact fun h => by cases h
  have kk := kk (by have := hR.2.2.2.2 q i (by omega); rw [hk] at this; exact this)
  rw [zR_n]
  rcases hlk with h | ⟨host, h⟩
  · exact W.getf F.1 F.2.1 F.2.2.2.2.2.1 (hts _ h) hfi2 hst q1 hkn hslot rfl rfl hd (kk p e s m args below meth c H locs cells slots K N ls F hR hW hlo hc hs hV)
  · exact va_Wgetf F.1 F.2.1 F.2.2.2.2.2.1 (zNwF F.2.2.2.2.2.2.2.2.1.1 F.2.2.2.2.2.2.2.2.1.2 h) hfi2 hst q1 hkn hslot rfl rfl hd (kk p e s m args below meth c H locs cells slots K N ls F hR hW hlo hc hs hV)
theorem zT.putf {a i : Int} {idx ci j : Nat} {v : Value} {ty : FieldType} {S' : zS} {m' : zMm} (hd : decode M.2.1 pc = .ok (.putfield idx, 3)) (hl : zFl M.1.cls idx i) (hk : zk S a = ci + 1) (hj : j < zN ci) (hi : zid ci j = i)
    (hty : parseFieldDescriptor (zfo i).2.2.1 = some ty) (hn : narrow ty v = v) (hf : fits ty v = true) (hfin : (zfo i).2.2.2 = false ∨ ((zfo i).2.2.2 = true ∧ M.1.name = "<init>" ∧ (zfo i).1 = M.1.cls ∧ Cond.fieldLink M.1.cls idx (zfo i).1 (zfo i).2.1 (zfo i).2.2.1 ∈ lw_all))
    (hS' : zx S' = zx S ∧ (∀ b, zk S' b = zk S b) ∧ ∀ b, zn S' b = zn S b) (hm : ∀ b : Int, b ≠ a → (∀ i, zf S' b i = zf S b i) ∧ ∀ j, m' b j = mm b j) (hwf : zwf (ci + 1) i (m' a i)) (hmo : ∀ j, j ≠ i → m' a j = mm a j) (hv : zfv S' m' a i = v) (ho : ∀ j, j ≠ i → zfv S' m' a j = zfv S mm a j)
    (kk : zT G M d (pc + 3) V st S' m' k n Q X) : zT G M d pc V (v :: zR a :: st) S mm k n Q X := by
  intro p e s m args below meth c H locs cells slots K N ls F hR hW hlo hc hs hV
  obtain ⟨q, rfl, hq1, hq2⟩ := hR.at (a := a) (by omega)
  obtain ⟨r, hr⟩ := zcl_of hj
  have hKs := zKs F.2.2.2.2.2.2.2.2.1.1 F.2.2.2.2.2.2.2.2.1.2
  obtain ⟨hS, hfc, kC, hkC, hkind⟩ := hKs.1 ci r hr
  have hj' : j < r.2.2 := by rw [zcl_N hr]; exact hj
  obtain ⟨cell, q1, q2, q3, q4⟩ := hR.2.2.1 q ci r hk hr
  obtain ⟨cf, kf, fi, f, hfi, hsl⟩ := hS j hj'
  have hts := F.2.2.2.2.2.2.2.1
  have hst := (u_facts hfc hkC (u_lays hts (zcl_in hr) hj') hfi).1
  have hfo := zcl_fo hr hj'
  rw [hi] at hfo
  have hap := zap F.2.2.2.2.2.2.2.2.1.1 hr
  obtain ⟨ref, hlk, hsm⟩ := hl
  have hfi2 : s.fieldFound? ref (zfo i).2.1 (zfo i).2.2.1 = some (cf, kf, fi, f) := by
    rw [hfo] at hfi
    rcases hsm with h | h
    · rw [h]; exact hfi
    · exact u_same (hts _ h) _ hfi
  have hlt : f.slot < cell.slots.size := by rw [hsl]; exact k2_hasslot (q4 j hj')
  have hlay := hts _ (zcl_in hr _ (u_in_lay hj'))
  unfold u_lay at hlay
  have fin : ∀ H' : Heap, H'[q]? = some (cell.setSlot f.slot v) → H'.size = H.size → (∀ x, x ≠ q → H'[x]? = H[x]?) → W p (gl G) e (zrm d K N) s m args below meth c H' (locs ++ [⟨q, f.slot⟩]) cells slots (vx_MQ below (zQc G Q) (zXc G X) args s K N (zfr G)) (F0 m (pc + 3) ls st) := by
    intro H' e1 e2 e3
    rw [hsl] at e1
    have hR' : zRep G S' m' H' := by
      refine hR.obj hk hr hS' hm (fun x => by
        by_cases hxi : x = i
        · rw [hxi]; exact hwf
        · rw [hmo x hxi]
          have := hR.2.2.2.2 q x (by omega)
          rw [hk] at this
          exact this) e2 e3 ⟨_, e1, q2, q3, ?_⟩
      intro x hx
      rw [t_set q4 hap hj' v x hx]
      show some (updV (fun k => zfv S mm q (zid ci k)) j v x) = some (zfv S' m' q (zid ci x))
      unfold updV
      by_cases hxj : x = j
      · rw [if_pos hxj, hxj, hi, hv]
      · rw [if_neg hxj]
        have hx' : x < zN ci := by rw [← zcl_N hr]; exact hx
        rw [ho _ (fun z => hxj (zid_inj (z.trans hi.symm) (zN_100 hx') (zN_100 hj)))]
    refine kk p e s m args below meth c H' _ cells slots K N ls F hR' ⟨by rw [e2]; exact hW.1, fun x hx => by rw [e3 x (Nat.ne_of_lt (Nat.lt_of_lt_of_le hx hq1))]; exact hW.2 x hx⟩ ?_ hc hs hV
    intro x hx
    rcases List.mem_append.mp hx with h | h
    · exact hlo x h
    · rw [List.mem_singleton.mp h]
      exact hq1
  rw [zR_n]
  rcases hfin with hfin | ⟨hfin, hin, hown, hplain⟩
  · rw [if_neg (by rw [hfo, hfin]; decide)] at hlay
    have h6 := u_store hfc hkC hkind hlay hfi (by rw [hfo]; exact hty) hn hf
    rcases hlk with h | ⟨host, h⟩
    · exact W.putK F.1 F.2.1 (f := f) ⟨F.2.2.2.2.2.1, hts _ h, ⟨_, _, _, hfi2⟩, hst⟩ (by rw [q2]; exact h6) q1 q3 hlt rfl rfl hd fin
    · exact va_WputK F.1 F.2.1 F.2.2.2.2.2.1 (zNwF F.2.2.2.2.2.2.2.2.1.1 F.2.2.2.2.2.2.2.2.1.2 h) hfi2 hst (by rw [q2]; exact h6) q1 q3 hlt rfl rfl hd fin
  · rw [if_pos (by rw [hfo]; exact hfin)] at hlay
    have hcf : m.cls = cf := by
      obtain ⟨_, _, c', _, _, _, -, -, hf', -, -, -, hown2, -⟩ := Cond.laysFinal_spec hlay
      have e1 : c' = cf := by have := hfi.symm.trans hf'; simp at this; exact this.1.symm
      rw [hfo, hown] at hown2
      rw [← e1]; exact Option.some.inj (F.2.2.2.2.2.1.symm.trans hown2)
    have h6 := u_fits hfc hkC hkind (Or.inr hlay) hfi (by rw [hfo]; exact hty) hn hf
    rw [hfo] at hfi
    exact W.putFinK F.1 F.2.1 F.2.2.2.2.2.1 (hts _ hplain) hfi hst hcf (F.2.2.2.2.2.2.1.trans hin) (by rw [q2]; exact h6) q1 q3 hlt rfl rfl hd fin
theorem zup_at {m : zMm} {a i x : Int} : zup m a i x a i = x := if_pos ⟨rfl, rfl⟩
theorem zup_ne {m : zMm} {a i x b j : Int} (h : ¬ (b = a ∧ j = i)) : zup m a i x b j = m b j := if_neg h
theorem zsf_at {S : zS} {a i x : Int} : zf (zsf S a i x) a i = x := if_pos ⟨rfl, rfl⟩
theorem zsf_ne {S : zS} {a i x b j : Int} (h : ¬ (b = a ∧ j = i)) : zf (zsf S a i x) b j = zf S b j := if_neg h
theorem zfv_up {S : zS} {m : zMm} {a i x j : Int} (h : j ≠ i) : zfv S (zup m a i x) a j = zfv S m a j := by
  unfold zfv
  rw [zup_ne (fun z => h z.2)]
theorem zfv_sf {S : zS} {m : zMm} {a i x j : Int} (h : j ≠ i) : zfv (zsf S a i x) m a j = zfv S m a j := by
  unfold zfv
  rw [zsf_ne (fun z => h z.2)]
theorem zR_nar {ty : FieldType} (h : ty.isReference = true) (x : Int) : narrow ty (zR x) = zR x ∧ fits ty (zR x) = true := by
  unfold zR
  cases ty <;> first | (cases h; done) | (split <;> exact ⟨rfl, rfl⟩)
/-- what a field that changes is, by its number: for a store -/
def zFs (i : Int) (ty : FieldType) : Prop := parseFieldDescriptor (zfo i).2.2.1 = some ty ∧ (zfo i).2.2.2 = false
theorem zwfI {ci j : Nat} {i x : Int} (hj : j < zN ci) (ht : zty i = 0) (h : zi x) : zwf (ci + 1) i x := by
  have hc : ci < 16 := by obtain ⟨r, hr⟩ := zcl_of hj; exact zcl_len hr
  unfold zwf
  rw [if_neg (by omega), if_neg (by omega), if_neg (by omega), if_neg (by omega), if_neg (by omega), if_pos ht]
  exact h
theorem zwfJ {ci j : Nat} {i x : Int} (hj : j < zN ci) (ht : zty i = 1) (h : zj x) : zwf (ci + 1) i x := by
  have hc : ci < 16 := by obtain ⟨r, hr⟩ := zcl_of hj; exact zcl_len hr
  unfold zwf
  rw [if_neg (by omega), if_neg (by omega), if_neg (by omega), if_neg (by omega), if_neg (by omega), if_neg (by omega), if_pos ht]
  exact h
theorem zwfR {ci j : Nat} {i x : Int} (hj : j < zN ci) (ht : 2 ≤ zty i) : zwf (ci + 1) i x := by
  have hc : ci < 16 := by obtain ⟨r, hr⟩ := zcl_of hj; exact zcl_len hr
  unfold zwf
  rw [if_neg (by omega), if_neg (by omega), if_neg (by omega), if_neg (by omega), if_neg (by omega), if_neg (by omega), if_neg (by omega)]
  trivial
theorem zwfI' {ci j : Nat} {i x : Int} (hj : j < zN ci) (ht : zty i = 0) (h : zwf (ci + 1) i x) : zi x := by
  have hc : ci < 16 := by obtain ⟨r, hr⟩ := zcl_of hj; exact zcl_len hr
  unfold zwf at h
  rw [if_neg (by omega), if_neg (by omega), if_neg (by omega), if_neg (by omega), if_neg (by omega), if_pos ht] at h
  exact h
theorem zwfJ' {ci j : Nat} {i x : Int} (hj : j < zN ci) (ht : zty i = 1) (h : zwf (ci + 1) i x) : zj x := by
  have hc : ci < 16 := by obtain ⟨r, hr⟩ := zcl_of hj; exact zcl_len hr
  unfold zwf at h
  rw [if_neg (by omega), if_neg (by omega), if_neg (by omega), if_neg (by omega), if_neg (by omega), if_neg (by omega), if_pos ht] at h
  exact h
theorem zT.getI {a i : Int} {idx ci j : Nat} (hd : decode M.2.1 pc = .ok (.getfield idx, 3)) (hl : zFl M.1.cls idx i) (ht : zty i = 0) (hk : zk S a = ci + 1) (hj : j < zN ci) (hi : zid ci j = i) (kk : zi (mm a i) → zT G M d (pc + 3) V (zI (mm a i) :: st) S mm k n Q X) : zT G M d pc V (zR a :: st) S mm k n Q X :=
  zT.getf hd hl hk hj hi (by unfold zfv; rw [ht]; try rfl) (fun h => kk (zwfI' hj ht h))
theorem zT.getJ {a i : Int} {idx ci j : Nat} (hd : decode M.2.1 pc = .ok (.getfield idx, 3)) (hl : zFl M.1.cls idx i) (ht : zty i = 1) (hk : zk S a = ci + 1) (hj : j < zN ci) (hi : zid ci j = i) (kk : zj (mm a i) → zT G M d (pc + 3) V (zJ (mm a i) :: st) S mm k n Q X) : zT G M d pc V (zR a :: st) S mm k n Q X :=
  zT.getf hd hl hk hj hi (by unfold zfv; rw [ht]; try rfl) (fun h => kk (zwfJ' hj ht h))
theorem zT.getR {a i : Int} {idx ci j : Nat} (hd : decode M.2.1 pc = .ok (.getfield idx, 3)) (hl : zFl M.1.cls idx i) (ht : zty i = 2) (hk : zk S a = ci + 1) (hj : j < zN ci) (hi : zid ci j = i) (kk : zT G M d (pc + 3) V (zR (mm a i) :: st) S mm k n Q X) : zT G M d pc V (zR a :: st) S mm k n Q X :=
  zT.getf hd hl hk hj hi (by unfold zfv; rw [ht]; try rfl) (fun _ => kk)
theorem zT.getF {a i b : Int} {idx ci j : Nat} (hd : decode M.2.1 pc = .ok (.getfield idx, 3)) (hl : zFl M.1.cls idx i) (ht : zty i = 3) (hk : zk S a = ci + 1) (hj : j < zN ci) (hi : zid ci j = i) (hb : zf S a i = b) (kk : zT G M d (pc + 3) V (zR b :: st) S mm k n Q X) : zT G M d pc V (zR a :: st) S mm k n Q X :=
  zT.getf hd hl hk hj hi (by unfold zfv; rw [ht, ← hb]; try rfl) (fun _ => kk)
theorem zT.norm {x y : Int} (e : Int32.ofInt x = Int32.ofInt y) (kk : zT G M d pc V (zI y :: st) S mm k n Q X) : zT G M d pc V (zI x :: st) S mm k n Q X := by
  unfold zI at kk ⊢
  rw [e]
  exact kk
theorem zT.putI {a i x : Int} {idx ci j : Nat} (hd : decode M.2.1 pc = .ok (.putfield idx, 3)) (hl : zFl M.1.cls idx i) (hs : zFs i .int) (ht : zty i = 0) (hk : zk S a = ci + 1) (hj : j < zN ci) (hi : zid ci j = i) (hx : zi x)
    (kk : zT G M d (pc + 3) V st S (zup mm a i x) k n Q X) : zT G M d pc V (zI x :: zR a :: st) S mm k n Q X := by
  refine zT.putf (S' := S) (m' := zup mm a i x) hd hl hk hj hi hs.1 rfl rfl (Or.inl hs.2) ⟨rfl, fun _ => rfl, fun _ => rfl⟩ (fun b hb => ⟨fun _ => rfl, fun j => zup_ne (fun z => hb z.1)⟩) (zwfI hj ht (by rw [zup_at]; exact hx)) (fun j hj => zup_ne (fun z => hj z.2)) ?_ (fun j hj => zfv_up hj) kk
  unfold zfv
  rw [ht]
  exact congrArg zI zup_at
theorem zT.putZ {a i x : Int} {idx ci j : Nat} (hd : decode M.2.1 pc = .ok (.putfield idx, 3)) (hl : zFl M.1.cls idx i) (hs : zFs i .boolean) (ht : zty i = 0) (hk : zk S a = ci + 1) (hj : j < zN ci) (hi : zid ci j = i) (h01 : x = 0 ∨ x = 1)
    (kk : zT G M d (pc + 3) V st S (zup mm a i x) k n Q X) : zT G M d pc V (zI x :: zR a :: st) S mm k n Q X := by
  have hx0 : zi x := by omega
  have hx : narrow .boolean (zI x) = zI x ∧ fits .boolean (zI x) = true := by
    rcases h01 with rfl | rfl <;> exact ⟨by decide +kernel, by decide +kernel⟩
  refine zT.putf (S' := S) (m' := zup mm a i x) hd hl hk hj hi hs.1 hx.1 hx.2 (Or.inl hs.2) ⟨rfl, fun _ => rfl, fun _ => rfl⟩ (fun b hb => ⟨fun _ => rfl, fun j => zup_ne (fun z => hb z.1)⟩) (zwfI hj ht (by rw [zup_at]; omega)) (fun j hj => zup_ne (fun z => hj z.2)) ?_ (fun j hj => zfv_up hj) kk
  unfold zfv
  rw [ht]
  exact congrArg zI zup_at
theorem zT.putJ {a i x : Int} {idx ci j : Nat} (hd : decode M.2.1 pc = .ok (.putfield idx, 3)) (hl : zFl M.1.cls idx i) (hs : zFs i .long) (ht : zty i = 1) (hk : zk S a = ci + 1) (hj : j < zN ci) (hi : zid ci j = i) (hx : zj x)
    (kk : zT G M d (pc + 3) V st S (zup mm a i x) k n Q X) : zT G M d pc V (zJ x :: zR a :: st) S mm k n Q X := by
  refine zT.putf (S' := S) (m' := zup mm a i x) hd hl hk hj hi hs.1 rfl rfl (Or.inl hs.2) ⟨rfl, fun _ => rfl, fun _ => rfl⟩ (fun b hb => ⟨fun _ => rfl, fun j => zup_ne (fun z => hb z.1)⟩) (zwfJ hj ht (by rw [zup_at]; exact hx)) (fun j hj => zup_ne (fun z => hj z.2)) ?_ (fun j hj => zfv_up hj) kk
  unfold zfv
  rw [ht]
  exact congrArg zJ zup_at
theorem zT.putR {a i x : Int} {idx ci j : Nat} {ty : FieldType} (hd : decode M.2.1 pc = .ok (.putfield idx, 3)) (hl : zFl M.1.cls idx i) (hs : zFs i ty) (hr : ty.isReference = true) (ht : zty i = 2) (hk : zk S a = ci + 1) (hj : j < zN ci) (hi : zid ci j = i)
    (kk : zT G M d (pc + 3) V st S (zup mm a i x) k n Q X) : zT G M d pc V (zR x :: zR a :: st) S mm k n Q X := by
  refine zT.putf (S' := S) (m' := zup mm a i x) hd hl hk hj hi hs.1 (zR_nar hr x).1 (zR_nar hr x).2 (Or.inl hs.2) ⟨rfl, fun _ => rfl, fun _ => rfl⟩ (fun b hb => ⟨fun _ => rfl, fun j => zup_ne (fun z => hb z.1)⟩) (zwfR hj (by omega)) (fun j hj => zup_ne (fun z => hj z.2)) ?_ (fun j hj => zfv_up hj) kk
  unfold zfv
  rw [ht]
  exact congrArg zR zup_at
/-- final fields, in their own constructor -/
def zFf (own : String) (idx : Nat) (i : Int) (ty : FieldType) : Prop := parseFieldDescriptor (zfo i).2.2.1 = some ty ∧ (zfo i).2.2.2 = true ∧ (zfo i).1 = own ∧ Cond.fieldLink own idx (zfo i).1 (zfo i).2.1 (zfo i).2.2.1 ∈ lw_all
theorem zFf.mk {own o nm ds : String} {idx : Nat} {i : Int} {ty : FieldType} (e : zfo i = (o, nm, ds, true)) (hp : parseFieldDescriptor ds = some ty) (ho : o = own) (h : Cond.fieldLink own idx o nm ds ∈ lw_all) : zFf own idx i ty := by
  unfold zFf
  rw [e]
  exact ⟨hp, rfl, ho, h⟩
theorem zT.putFR {a i x : Int} {idx ci j : Nat} {ty : FieldType} (hd : decode M.2.1 pc = .ok (.putfield idx, 3)) (hl : zFl M.1.cls idx i) (hs : zFf M.1.cls idx i ty) (hin : M.1.name = "<init>") (hr : ty.isReference = true) (ht : zty i = 3) (hk : zk S a = ci + 1) (hj : j < zN ci) (hi : zid ci j = i)
    (kk : zT G M d (pc + 3) V st (zsf S a i x) mm k n Q X) : zT G M d pc V (zR x :: zR a :: st) S mm k n Q X := by
  refine zT.putf (S' := zsf S a i x) (m' := mm) hd hl hk hj hi hs.1 (zR_nar hr x).1 (zR_nar hr x).2 (Or.inr ⟨hs.2.1, hin, hs.2.2.1, hs.2.2.2⟩) ⟨rfl, fun _ => rfl, fun _ => rfl⟩ (fun b hb => ⟨fun j => zsf_ne (fun z => hb z.1), fun _ => rfl⟩) (zwfR hj (by omega)) (fun j hj => rfl) ?_ (fun j hj => zfv_sf hj) kk
  unfold zfv
  rw [ht]
  exact congrArg zR zsf_at
theorem zT.putFI {a i x : Int} {idx ci j : Nat} (hd : decode M.2.1 pc = .ok (.putfield idx, 3)) (hl : zFl M.1.cls idx i) (hs : zFf M.1.cls idx i .int) (hin : M.1.name = "<init>") (ht : zty i = 0) (hk : zk S a = ci + 1) (hj : j < zN ci) (hi : zid ci j = i) (hx : zi x)
    (kk : zT G M d (pc + 3) V st S (zup mm a i x) k n Q X) : zT G M d pc V (zI x :: zR a :: st) S mm k n Q X := by
  refine zT.putf (S' := S) (m' := zup mm a i x) hd hl hk hj hi hs.1 rfl rfl (Or.inr ⟨hs.2.1, hin, hs.2.2.1, hs.2.2.2⟩) ⟨rfl, fun _ => rfl, fun _ => rfl⟩ (fun b hb => ⟨fun _ => rfl, fun j => zup_ne (fun z => hb z.1)⟩) (zwfI hj ht (by rw [zup_at]; exact hx)) (fun j hj => zup_ne (fun z => hj z.2)) ?_ (fun j hj => zfv_up hj) kk
  unfold zfv
  rw [ht]
  exact congrArg zI zup_at
/-! ARRAYS -/
theorem zArr {s : State} {κ : Nat} (h : zOK G) (hW : (gs G).WarmedH s.vm) (hκ : κ ∈ zks) : ArrOfT s (gA G κ) (zarr κ) ∧ va_RA s (gA G κ) (zarr κ) := ⟨arrOfT_moved hW.alike (h.2.2.1 κ hκ).1, (h.2.2.1 κ hκ).2.moved hW.alike⟩
theorem z_ix {x N : Int} {f : Nat → Value} {cA : ClassId} (h0 : 0 ≤ x) (h1 : x < N) (hN : N < 2147483648) : ¬ (Int32.ofInt x < 0 ∨ (arrV cA N.toNat f).slots.size ≤ (Int32.ofInt x).toNatClampNeg) := by
  rw [arrV_size, zi_cl h0 (by omega), zi_lt0 ⟨by omega, by omega⟩]
  omega
theorem z_rd {x N : Int} {f : Nat → Value} {cA : ClassId} (h0 : 0 ≤ x) (h1 : x < N) (hN : N < 2147483648) : (arrV cA N.toNat f).slots[(Int32.ofInt x).toNatClampNeg]? = some (f x.toNat) := by
  rw [zi_cl h0 (by omega)]
  exact arrV_read _ _ (by omega)
theorem zT.alen {a : Int} (hd : decode M.2.1 pc = .ok (.arraylength, 1)) (hk : zk S a ∈ zks) (kk : zT G M d (pc + 1) V (zI (zn S a) :: st) S mm k n Q X) : zT G M d pc V (zR a :: st) S mm k n Q X := by
  intro p e s m args below meth c H locs cells slots K N ls F hR hW hlo hc hs hV
  have hk1 : 100 < zk S a := (by decide : ∀ κ ∈ zks, 100 < κ) _ hk
  obtain ⟨q, rfl, hq1, hq2⟩ := hR.at (a := a) (by omega)
  obtain ⟨g1, g2, g3⟩ := hR.2.2.2.1 q hk1
  have hA := zArr F.2.2.2.2.2.2.2.2.1.1 F.2.2.2.2.2.2.2.2.1.2 hk
  rw [zR_n]
  refine W.alen (n := Int32.ofInt (zn S q)) F.1 F.2.1 g3 (hA.1 _ _) ?_ rfl rfl hd (kk p e s m args below meth c H locs cells slots K N ls F hR hW hlo hc hs hV)
  rw [arrV_size]
  show Int32.ofNat _ = _
  rw [← Int32.ofInt_eq_ofNat, z_nat g1]
theorem zT.iald {a x : Int} (hd : decode M.2.1 pc = .ok (.iaload, 1)) (hk : zk S a = 101) (h0 : 0 ≤ x) (h1 : x < zn S a) (kk : (zi (mm a x)) → zT G M d (pc + 1) V (zI (mm a x) :: st) S mm k n Q X) : zT G M d pc V (zI x :: zR a :: st) S mm k n Q X := by
  intro p e s m args below meth c H locs cells slots K N ls F hR hW hlo hc hs hV
  obtain ⟨q, rfl, hq1, hq2⟩ := hR.at (a := a) (by omega)
  obtain ⟨g1, g2, g3⟩ := hR.2.2.2.1 q (by omega)
  rw [hk] at g3
  have hA := zArr (κ := 101) F.2.2.2.2.2.2.2.2.1.1 F.2.2.2.2.2.2.2.2.1.2 (by decide)
  have hwf := hR.2.2.2.2 q x (by omega)
  rw [hk] at hwf
  have h2 := kk hwf p e s m args below meth c H locs cells slots K N ls F hR hW hlo hc hs hV
  have hv : zav 101 (mm q (x.toNat : Nat)) = zI (mm q x) := by
    rw [z_nat h0]
    rfl
  rw [zR_n]
  exact W.iald (v := zI (mm q x)) F.1 F.2.1 g3 (hA.1 _ _) (fun q => by cases q) (z_ix h0 h1 g2) (by rw [z_rd h0 h1 g2, hv]) rfl rfl hd h2
theorem zT.lald {a x : Int} (hd : decode M.2.1 pc = .ok (.laload, 1)) (hk : zk S a = 102) (h0 : 0 ≤ x) (h1 : x < zn S a) (kk : (zj (mm a x)) → zT G M d (pc + 1) V (zJ (mm a x) :: st) S mm k n Q X) : zT G M d pc V (zI x :: zR a :: st) S mm k n Q X := by
  intro p e s m args below meth c H locs cells slots K N ls F hR hW hlo hc hs hV
  obtain ⟨q, rfl, hq1, hq2⟩ := hR.at (a := a) (by omega)
  obtain ⟨g1, g2, g3⟩ := hR.2.2.2.1 q (by omega)
  rw [hk] at g3
  have hA := zArr (κ := 102) F.2.2.2.2.2.2.2.2.1.1 F.2.2.2.2.2.2.2.2.1.2 (by decide)
  have hwf := hR.2.2.2.2 q x (by omega)
  rw [hk] at hwf
  have h2 := kk hwf p e s m args below meth c H locs cells slots K N ls F hR hW hlo hc hs hV
  have hv : zav 102 (mm q (x.toNat : Nat)) = zJ (mm q x) := by
    rw [z_nat h0]
    rfl
  rw [zR_n]
  exact W.lald (v := zJ (mm q x)) F.1 F.2.1 g3 (hA.1 _ _) (fun q => by cases q) (z_ix h0 h1 g2) (by rw [z_rd h0 h1 g2, hv]) rfl rfl hd h2
theorem zT.bald {a x : Int} (hd : decode M.2.1 pc = .ok (.baload, 1)) (hk : zk S a = 103) (h0 : 0 ≤ x) (h1 : x < zn S a) (kk : (-128 ≤ mm a x ∧ mm a x < 128) → zT G M d (pc + 1) V (zI (mm a x) :: st) S mm k n Q X) : zT G M d pc V (zI x :: zR a :: st) S mm k n Q X := by
  intro p e s m args below meth c H locs cells slots K N ls F hR hW hlo hc hs hV
  obtain ⟨q, rfl, hq1, hq2⟩ := hR.at (a := a) (by omega)
  obtain ⟨g1, g2, g3⟩ := hR.2.2.2.1 q (by omega)
  rw [hk] at g3
  have hA := zArr (κ := 103) F.2.2.2.2.2.2.2.2.1.1 F.2.2.2.2.2.2.2.2.1.2 (by decide)
  have hwf := hR.2.2.2.2 q x (by omega)
  rw [hk] at hwf
  have h2 := kk hwf p e s m args below meth c H locs cells slots K N ls F hR hW hlo hc hs hV
  have hv : zav 103 (mm q (x.toNat : Nat)) = zI (mm q x) := by
    rw [z_nat h0]
    rfl
  rw [zR_n]
  exact W.bald (v := zI (mm q x)) F.1 F.2.1 g3 (hA.1 _ _) (fun q => by cases q) (z_ix h0 h1 g2) (by rw [z_rd h0 h1 g2, hv]) rfl rfl hd h2
theorem zT.zald {a x : Int} (hd : decode M.2.1 pc = .ok (.baload, 1)) (hk : zk S a = 104) (h0 : 0 ≤ x) (h1 : x < zn S a) (kk : (mm a x = 0 ∨ mm a x = 1) → zT G M d (pc + 1) V (zI (mm a x) :: st) S mm k n Q X) : zT G M d pc V (zI x :: zR a :: st) S mm k n Q X := by
  intro p e s m args below meth c H locs cells slots K N ls F hR hW hlo hc hs hV
  obtain ⟨q, rfl, hq1, hq2⟩ := hR.at (a := a) (by omega)
  obtain ⟨g1, g2, g3⟩ := hR.2.2.2.1 q (by omega)
  rw [hk] at g3
  have hA := zArr (κ := 104) F.2.2.2.2.2.2.2.2.1.1 F.2.2.2.2.2.2.2.2.1.2 (by decide)
  have hwf := hR.2.2.2.2 q x (by omega)
  rw [hk] at hwf
  have h2 := kk hwf p e s m args below meth c H locs cells slots K N ls F hR hW hlo hc hs hV
  have hv : zav 104 (mm q (x.toNat : Nat)) = zI (mm q x) := by
    rw [z_nat h0]
    rfl
  rw [zR_n]
  exact W.zald (v := zI (mm q x)) F.1 F.2.1 g3 (hA.1 _ _) (fun q => by cases q) (z_ix h0 h1 g2) (by rw [z_rd h0 h1 g2, hv]) rfl rfl hd h2
theorem zT.aald {a x : Int} (hd : decode M.2.1 pc = .ok (.aaload, 1)) (hk : zk S a ∈ [111, 112, 113, 114, 115]) (h0 : 0 ≤ x) (h1 : x < zn S a) (kk : zT G M d (pc + 1) V (zR (mm a x) :: st) S mm k n Q X) : zT G M d pc V (zI x :: zR a :: st) S mm k n Q X := by
  intro p e s m args below meth c H locs cells slots K N ls F hR hW hlo hc hs hV
  have hk1 : 110 ≤ zk S a := (by decide : ∀ κ ∈ [111, 112, 113, 114, 115], 110 ≤ κ) _ hk
  have hk2 : zk S a ∈ zks := (by decide : ∀ κ ∈ [111, 112, 113, 114, 115], κ ∈ zks) _ hk
  have hk3 : (zarr (zk S a)).isReference = true := (by decide : ∀ κ ∈ [111, 112, 113, 114, 115], (zarr κ).isReference = true) _ hk
  obtain ⟨q, rfl, hq1, hq2⟩ := hR.at (a := a) (by omega)
  obtain ⟨g1, g2, g3⟩ := hR.2.2.2.1 q (by omega)
  have hA := zArr F.2.2.2.2.2.2.2.2.1.1 F.2.2.2.2.2.2.2.2.1.2 hk2
  have h2 := kk p e s m args below meth c H locs cells slots K N ls F hR hW hlo hc hs hV
  have hv : zav (zk S q) (mm q (x.toNat : Nat)) = zR (mm q x) := by
    rw [z_nat h0]
    unfold zav
    rw [if_neg (by omega), if_pos hk1]
  rw [zR_n]
  exact W.aald (v := zR (mm q x)) F.1 F.2.1 g3 (hA.1 _ _) hk3 (fun q => by cases q) (z_ix h0 h1 g2) (by rw [z_rd h0 h1 g2, hv]) rfl rfl hd h2
theorem zRep.sto {m : zMm} {H H' : Heap} (h : zRep G S m H) {q : Nat} (hk : 100 < zk S q) {x y : Int} (h0 : 0 ≤ x) (h1 : x < zn S q) {v : Value} (hv : zav (zk S q) y = v) (hwf : zwf (zk S q) x y)
    (e1 : H'[q]? = some ((arrV (gA G (zk S q)) (zn S q).toNat (fun j => zav (zk S q) (m q j))).setSlot (Int32.ofInt x).toNatClampNeg v)) (e2 : H'.size = H.size) (e3 : ∀ z, z ≠ q → H'[z]? = H[z]?) : zRep G S (zup m q x y) H' := by
  obtain ⟨g1, g2, g3⟩ := h.2.2.2.1 q hk
  refine h.arr hk (fun b hb j => zup_ne (fun z => hb z.1)) (fun i => by
    by_cases hi : i = x
    · rw [hi, zup_at]; exact hwf
    · rw [zup_ne (fun z => hi z.2)]; exact h.2.2.2.2 q i (by omega)) e2 e3 ?_
  rw [e1, arrV_store, zi_cl h0 (by omega)]
  congr 2
  funext j
  unfold updV
  by_cases hj : j = x.toNat
  · rw [if_pos hj, hj, z_nat h0, zup_at, hv]
  · rw [if_neg hj, zup_ne (fun z => hj (by omega))]
theorem zT.iast {a x y : Int} (hd : decode M.2.1 pc = .ok (.iastore, 1)) (hk : zk S a = 101) (h0 : 0 ≤ x) (h1 : x < zn S a) (hy : zi y) (kk : zT G M d (pc + 1) V st S (zup mm a x (y)) k n Q X) : zT G M d pc V (zI y :: zI x :: zR a :: st) S mm k n Q X := by
  intro p e s m args below meth c H locs cells slots K N ls F hR hW hlo hc hs hV
  obtain ⟨q, rfl, hq1, hq2⟩ := hR.at (a := a) (by omega)
  have hk1 : 100 < zk S q := by omega
  obtain ⟨g1, g2, g3⟩ := hR.2.2.2.1 q hk1
  have hA := zArr (κ := 101) F.2.2.2.2.2.2.2.2.1.1 F.2.2.2.2.2.2.2.2.1.2 (by decide)
  have hv : zav 101 (y) = zI y := rfl
  rw [zR_n]
  refine W.iast F.1 F.2.1 g3 (by rw [hk]; exact hA.1 _ _) (fun q => by cases q) (z_ix h0 h1 g2) rfl rfl hd fun H' e1 e2 e3 => ?_
  refine kk p e s m args below meth c H' _ cells slots K N ls F (hR.sto hk1 h0 h1 (by rw [hk]; exact hv) (by rw [hk]; exact hy) e1 e2 e3) ⟨by rw [e2]; exact hW.1, fun x hx => by rw [e3 x (Nat.ne_of_lt (Nat.lt_of_lt_of_le hx hq1))]; exact hW.2 x hx⟩ ?_ hc hs hV
  intro x hx
  rcases List.mem_append.mp hx with h | h
  · exact hlo x h
  · rw [List.mem_singleton.mp h]
    exact hq1
theorem zT.last {a x y : Int} (hd : decode M.2.1 pc = .ok (.lastore, 1)) (hk : zk S a = 102) (h0 : 0 ≤ x) (h1 : x < zn S a) (hy : zj y) (kk : zT G M d (pc + 1) V st S (zup mm a x (y)) k n Q X) : zT G M d pc V (zJ y :: zI x :: zR a :: st) S mm k n Q X := by
  intro p e s m args below meth c H locs cells slots K N ls F hR hW hlo hc hs hV
  obtain ⟨q, rfl, hq1, hq2⟩ := hR.at (a := a) (by omega)
  have hk1 : 100 < zk S q := by omega
  obtain ⟨g1, g2, g3⟩ := hR.2.2.2.1 q hk1
  have hA := zArr (κ := 102) F.2.2.2.2.2.2.2.2.1.1 F.2.2.2.2.2.2.2.2.1.2 (by decide)
  have hv : zav 102 (y) = zJ y := rfl
  rw [zR_n]
  refine W.last F.1 F.2.1 g3 (by rw [hk]; exact hA.1 _ _) (fun q => by cases q) (z_ix h0 h1 g2) rfl rfl hd fun H' e1 e2 e3 => ?_
  refine kk p e s m args below meth c H' _ cells slots K N ls F (hR.sto hk1 h0 h1 (by rw [hk]; exact hv) (by rw [hk]; exact hy) e1 e2 e3) ⟨by rw [e2]; exact hW.1, fun x hx => by rw [e3 x (Nat.ne_of_lt (Nat.lt_of_lt_of_le hx hq1))]; exact hW.2 x hx⟩ ?_ hc hs hV
  intro x hx
  rcases List.mem_append.mp hx with h | h
  · exact hlo x h
  · rw [List.mem_singleton.mp h]
    exact hq1
theorem zT.bast {a x y : Int} (hd : decode M.2.1 pc = .ok (.bastore, 1)) (hk : zk S a = 103) (h0 : 0 ≤ x) (h1 : x < zn S a) (kk : zT G M d (pc + 1) V st S (zup mm a x (y.bmod 256)) k n Q X) : zT G M d pc V (zI y :: zI x :: zR a :: st) S mm k n Q X := by
  intro p e s m args below meth c H locs cells slots K N ls F hR hW hlo hc hs hV
  obtain ⟨q, rfl, hq1, hq2⟩ := hR.at (a := a) (by omega)
  have hk1 : 100 < zk S q := by omega
  obtain ⟨g1, g2, g3⟩ := hR.2.2.2.1 q hk1
  have hA := zArr (κ := 103) F.2.2.2.2.2.2.2.2.1.1 F.2.2.2.2.2.2.2.2.1.2 (by decide)
  have hv : zav 103 (y.bmod 256) = narrow .byte (zI y) := by
    show zI (y.bmod 256) = Value.int _
    unfold zI
    rw [← zi_b]
  rw [zR_n]
  refine W.bast F.1 F.2.1 g3 (by rw [hk]; exact hA.1 _ _) (fun q => by cases q) (z_ix h0 h1 g2) rfl rfl hd fun H' e1 e2 e3 => ?_
  refine kk p e s m args below meth c H' _ cells slots K N ls F (hR.sto hk1 h0 h1 (by rw [hk]; exact hv) (by rw [hk]; exact (by
    show -128 ≤ y.bmod 256 ∧ y.bmod 256 < 128
    rw [Int.bmod_def]; omega)) e1 e2 e3) ⟨by rw [e2]; exact hW.1, fun x hx => by rw [e3 x (Nat.ne_of_lt (Nat.lt_of_lt_of_le hx hq1))]; exact hW.2 x hx⟩ ?_ hc hs hV
  intro x hx
  rcases List.mem_append.mp hx with h | h
  · exact hlo x h
  · rw [List.mem_singleton.mp h]
    exact hq1
theorem zT.zast {a x y : Int} (hd : decode M.2.1 pc = .ok (.bastore, 1)) (hk : zk S a = 104) (h0 : 0 ≤ x) (h1 : x < zn S a) (h01 : y = 0 ∨ y = 1) (kk : zT G M d (pc + 1) V st S (zup mm a x (y)) k n Q X) : zT G M d pc V (zI y :: zI x :: zR a :: st) S mm k n Q X := by
  intro p e s m args below meth c H locs cells slots K N ls F hR hW hlo hc hs hV
  obtain ⟨q, rfl, hq1, hq2⟩ := hR.at (a := a) (by omega)
  have hk1 : 100 < zk S q := by omega
  obtain ⟨g1, g2, g3⟩ := hR.2.2.2.1 q hk1
  have hA := zArr (κ := 104) F.2.2.2.2.2.2.2.2.1.1 F.2.2.2.2.2.2.2.2.1.2 (by decide)
  have hv : zav 104 (y) = narrow .boolean (zI y) := by
    rcases h01 with rfl | rfl <;> decide +kernel
  rw [zR_n]
  refine W.zast F.1 F.2.1 g3 (by rw [hk]; exact hA.1 _ _) (fun q => by cases q) (z_ix h0 h1 g2) rfl rfl hd fun H' e1 e2 e3 => ?_
  refine kk p e s m args below meth c H' _ cells slots K N ls F (hR.sto hk1 h0 h1 (by rw [hk]; exact hv) (by rw [hk]; exact h01) e1 e2 e3) ⟨by rw [e2]; exact hW.1, fun x hx => by rw [e3 x (Nat.ne_of_lt (Nat.lt_of_lt_of_le hx hq1))]; exact hW.2 x hx⟩ ?_ hc hs hV
  intro x hx
  rcases List.mem_append.mp hx with h | h
  · exact hlo x h
  · rw [List.mem_singleton.mp h]
    exact hq1
end
