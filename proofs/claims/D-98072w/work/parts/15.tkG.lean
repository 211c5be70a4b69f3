/-! CONTRACTS AND CALLS -/
section
variable {G : zG} {M : zM} {d pc : Nat} {V st : List Value} {S : zS} {mm : zMm} {k n : Nat} {Q : zQt} {X : zXt}
theorem zC.of {As : List Value} {K N : Nat} (V : List Value) (hy : plainName M.1.cls = true) (hh : M.2.2.2.2 = []) (hV : zEn As V) (hn : V.length = M.2.2.1) (h : zT G M d 0 V [] S mm K N Q X) : zC G M d K N As S mm Q X := by
  obtain ⟨y, cc, nL, ret, hd⟩ := M
  simp only at hh hn hy
  subst hh
  refine vx_ofW (cc := cc) (maxL := nL) (ret := ret) hy rfl ?_
  intro p e s m args below meth c s₁ B hml htab hP
  obtain ⟨rfl, hOK, hW, hL, hR⟩ := hP
  have hts := atoms_spec (ws := ws_ y cc nL ret) B.pre
  have hts : ∀ w ∈ lw_all, w.before _ s = true := fun w h => hts w (List.mem_cons_of_mem _ h)
  have hlen := hV.len
  have hl := lv_entry As (n := nL) (by omega)
  rw [lg_entry_eq]
  generalize (lg_sl As ++ List.replicate (nL - (lg_sl As).length) Slot.unset).toArray = ls at hl ⊢
  refine h p e s m _ below meth c s.heap [] 0 0 K N ls ⟨B.exec, B.bytes, hml, B.returns, B.notSynchronized, findClass_of_methodNamed B.named, (name_of_methodNamed B.named B.method).1, hts, ⟨hOK, hW⟩, ?_, hL⟩ hR hL (fun q hq => by cases hq) (by omega) (by omega) ⟨hl.1, hl.2.1, fun i v h1 h2 => ?_⟩
  · exact List.eq_nil_iff_forall_not_mem.mpr htab
  · have := hV.arg 0 i v h1 h2
    rw [Nat.zero_add] at this
    exact hl.2.2 (i, v) this
theorem zC.ofW {As : List Value} {K N : Nat} (V : List Value) (hy : plainName M.1.cls = true) (hh : M.2.2.2.2 ≠ []) (hV : zEn As V) (hn : V.length = M.2.2.1) (h : zT G M d 0 V [] S mm K N Q X) : zC G M d K N As S mm Q X := by
  obtain ⟨y, cc, nL, ret, hd⟩ := M
  simp only at hh hn hy
  cases hd with
  | nil => exact absurd rfl hh
  | cons h1 hd =>
  refine vx_ofWH (cc := cc) (maxL := nL) (ret := ret) (hh := h1 :: hd) hy rfl ?_
  intro p e s m args below meth c s₁ B hml hP
  obtain ⟨rfl, hOK, hW, hL, hR⟩ := hP
  have hts0 := atoms_spec (ws := wsW_ y cc nL ret (h1 :: hd)) B.pre
  have htab := vx_table (x := y) B (hts0 _ List.mem_cons_self)
  have hts : ∀ w ∈ lw_all, w.before _ s = true := fun w h => hts0 w (List.mem_cons_of_mem _ h)
  have hlen := hV.len
  have hl := lv_entry As (n := nL) (by omega)
  rw [lg_entry_eq]
  generalize (lg_sl As ++ List.replicate (nL - (lg_sl As).length) Slot.unset).toArray = ls at hl ⊢
  refine h p e s m _ below meth c s.heap [] 0 0 K N ls ⟨B.exec, B.bytes, hml, B.returns, B.notSynchronized, findClass_of_methodNamed B.named, (name_of_methodNamed B.named B.method).1, hts, ⟨hOK, hW⟩, htab, hL⟩ hR hL (fun q hq => by cases hq) (by omega) (by omega) ⟨hl.1, hl.2.1, fun i v h1 h2 => ?_⟩
  have := hV.arg 0 i v h1 h2
  rw [Nat.zero_add] at this
  exact hl.2.2 (i, v) this
theorem zC.mono {As : List Value} {K N : Nat} {Q' : zQt} {X' : zXt} (h : zC G M d K N As S mm Q' X') (hQ : ∀ v S m, Q' v S m → Q v S m) (hX : ∀ E q S m, X' E q S m → X E q S m) : zC G M d K N As S mm Q X := by
  unfold zC vx_Met at h ⊢
  intro p e a b c s m args below f1 f2 f3 f4
  obtain ⟨t, o, h1, h2, h3, h4⟩ := h p e a b c s m args below f1 f2 f3 f4
  refine ⟨t, o, h1, h2, h3, ?_⟩
  rcases h4 with ⟨⟨v, S2, m2, e1, e2, e3⟩, b4⟩ | ⟨q, e0, E, ce, L, ⟨S2, m2, e1, e2⟩, b4⟩
  · exact Or.inl ⟨⟨v, S2, m2, e1, hQ _ _ _ e2, e3⟩, b4⟩
  · exact Or.inr ⟨q, e0, E, ce, L, ⟨S2, m2, hX _ _ _ _ e1, e2⟩, b4⟩
theorem zblind {As : List Value} : FrameBlind (va_Pc As (fun U => zOK G ∧ (gs G).WarmedH U.vm ∧ zLw G U.heap ∧ zRep G S mm U.heap)) := fun _ _ _ _ q => q
theorem zfin {p : Program} {e : Env} {s : State} {m : MethodId} {args : Array Value} {below : List Frame} {meth : Method} {c : Code} {H : Heap} {locs : List Loc} {cells slots K N : Nat} {ls : Array Slot} {rest : List Value} {Q' : zQt} {X' : zXt} {a : Array Value} {k0 n0 k' n' : Nat}
    (F : zFx G M p s m args meth c) (hlo : ∀ q ∈ locs, zfr G q.base) (hc : cells + k ≤ K) (hs : slots + n ≤ N) (hV : zL ls M.2.2.1 V) (hk : k0 + k' ≤ k) (hn : n0 + n' ≤ n)
    (hr : vx_Run p (gl G) e (zrm d K N) s m args below meth c H locs cells slots k0 n0 (F0 m pc ls st) rest (zQc G Q' a) (zXc G X') (zfr G))
    (kk : ∀ v S' m', Q' v S' m' → zT G M d (pc + 3) V (v.toList ++ rest) S' m' k' n' Q X) (kx : ∀ E q S' m', X' E q S' m' → zTX G M d pc V E q S' m' k' n' Q X) :
    W p (gl G) e (zrm d K N) s m args below meth c H locs cells slots (vx_MQ below (zQc G Q) (zXc G X) args s K N (zfr G)) (F0 m pc ls st) := by
  intro T hT Xs
  rcases hr T hT Xs with ⟨v, st₀, t, T', L, h0, X2, hL, e1, e2, ⟨v', S', m', hv, hq, hR', hW'⟩, goes⟩ | ⟨q, st₀, t, T', L, E, ce, h0, X2, hL, e1, e2, ⟨S', m', hx, hR', hW'⟩, hce, hcv, hcl, steps⟩
  · cases hv
    obtain ⟨t2, a1, b1⟩ := kk v S' m' hq p e s m args below meth c T'.heap (locs ++ L) (cells + k0) (slots + n0) K N ls F (by rw [e1]; exact hR') (by rw [e1]; exact hW') (fun x hx => (List.mem_append.mp hx).elim (hlo x) (hL x)) (by omega) (by omega) hV T' rfl X2
    exact ⟨t2, goes t2 a1, b1⟩
  · obtain ⟨t2, a1, b1⟩ := kx E q S' m' hx p e s m args below meth c T'.heap (locs ++ L) (cells + k0) (slots + n0) K N ls q ce rest F (by rw [e1]; exact hR') (by rw [e1]; exact hW') (fun x hx => (List.mem_append.mp hx).elim (hlo x) (hL x)) (by omega) (by omega) hV rfl (by rw [e1]; exact hce) hcv hcl T' rfl X2
    exact ⟨t2, steps.trans a1, b1⟩
def zNoMH (y : MethodName) : Prop := y.cls ≠ "java/lang/invoke/MethodHandle" ∧ y.cls ≠ "java/lang/invoke/VarHandle"
/-- what a virtual call in class own at the pool's index idx needs -/
def zLV (own : String) (idx ar : Nat) (C : String) (M' : zM) : Prop := Cond.methodLink own idx M'.1 ∈ lw_all ∧ Cond.instanceMethod M'.1 ∈ lw_all ∧ Cond.selects C M'.1 M'.1 ∈ lw_all ∧ Cond.initialized C ∈ lw_all ∧ Cond.code M'.1 M'.2.1 M'.2.2.1 M'.2.2.2.1 ∈ lw_all ∧
  (M'.1.cls = C ∧ M'.1.cls ≠ "java/lang/invoke/MethodHandle" ∧ M'.1.cls ≠ "java/lang/invoke/VarHandle" ∧ (parseMethodDescriptor M'.1.desc).map (fun d => d.parameters.length) = some ar) ∧ M'.2.2.2.2 = [] ∧ M'.2.2.1 ≤ 45
theorem zobj {H : Heap} {q ci : Nat} {r : vw_C} {s : State} (hOK : zOK G) (hW : (gs G).WarmedH s.vm) (hR : zRep G S mm H) (hk : zk S q = ci + 1) (hr : zcl[ci]? = some r) : ∃ cell : Cell, H[q]? = some cell ∧ cell.vm.isStatics = false ∧ s.vm.findClass r.1 = some cell.cls := by
  obtain ⟨cell, q1, q2, q3, -⟩ := hR.2.2.1 q ci r hk hr
  exact ⟨cell, q1, by rw [q3]; rfl, by rw [q2]; exact ((zKs hOK hW).1 ci r hr).2.1⟩
theorem zT.callV {M' : zM} {idx ar ci d' k0 n0 k' n' : Nat} {r : vw_C} {b : Int} {Q' : zQt} {X' : zXt} (As rest : List Value) (hd : decode M.2.1 pc = .ok (.invokevirtual idx, 3)) (hl : zLV M.1.cls idx ar r.1 M') (hst : st = As.reverse ++ zR b :: rest) (har : As.length = ar) (hr : zcl[ci]? = some r) (hb : zk S b = ci + 1)
    (hC : zC G M' d' k0 n0 (zR b :: As) S mm Q' X') (hdd : d' + 1 ≤ d) (hk : k0 + k' ≤ k) (hn : n0 + n' ≤ n) (hcat : (rest.map fun v => v.category).sum ≤ 8)
    (kk : ∀ v S' m', Q' v S' m' → zT G M d (pc + 3) V (v.toList ++ rest) S' m' k' n' Q X) (kx : ∀ E q S' m', X' E q S' m' → zTX G M d pc V E q S' m' k' n' Q X) : zT G M d pc V st S mm k n Q X := by
  intro p e s m args below meth c H locs cells slots K N ls F hR hW hlo hc hs hV
  obtain ⟨q, rfl, hq1, hq2⟩ := hR.at (a := b) (by omega)
  subst hst
  obtain ⟨y, cc, nL, ret, hh⟩ := M'
  obtain ⟨w1, w2, w3, w4, w5, w6, w7, w8⟩ := hl
  simp only at w1 w2 w3 w4 w5 w6 w7 w8
  subst w7
  have hOK := F.2.2.2.2.2.2.2.2.1.1
  have hWs := F.2.2.2.2.2.2.2.2.1.2
  have hts := F.2.2.2.2.2.2.2.1
  rw [zR_n] at hC ⊢
  refine zfin F hlo hc hs hV hk hn (vx_runV (As := As) (rest := rest) (C := r.1) ⟨F.1, F.2.1, F.2.2.1, F.2.2.2.2.2.1, hts⟩ hC (cwV ar hts (lw_V w1 w2 w3 w4 w5) rfl rfl rfl w6 ⟨by show d' + 1 ≤ d; omega, by show 8 + (nL + 11) + 64 * d' ≤ 64 * d; omega⟩)
    ⟨zblind, zobj hOK hWs hR hb hr, fun U hU hWU => ⟨rfl, hOK, State.WarmedH.trans hWs hWU, by rw [hU]; exact hW, by rw [hU]; exact hR⟩⟩ rfl har hV.1 rfl (lv_room hcat) hd ⟨by show cells + k0 ≤ K; omega, by show slots + n0 ≤ N; omega⟩) kk kx
def zLS (own : String) (idx ar : Nat) (M' : zM) : Prop := Cond.methodLink own idx M'.1 ∈ lw_all ∧ Cond.static M'.1 ∈ lw_all ∧ Cond.initialized M'.1.cls ∈ lw_all ∧ Cond.code M'.1 M'.2.1 M'.2.2.1 M'.2.2.2.1 ∈ lw_all ∧
  (M'.1.cls ≠ "java/lang/invoke/MethodHandle" ∧ M'.1.cls ≠ "java/lang/invoke/VarHandle" ∧ (parseMethodDescriptor M'.1.desc).map (fun d => d.parameters.length) = some ar) ∧ M'.2.2.2.2 = [] ∧ M'.2.2.1 ≤ 45
theorem zT.callS {M' : zM} {idx ar d' k0 n0 k' n' : Nat} {Q' : zQt} {X' : zXt} (As rest : List Value) (hd : decode M.2.1 pc = .ok (.invokestatic idx, 3)) (hl : zLS M.1.cls idx ar M') (hst : st = As.reverse ++ rest) (har : As.length = ar)
    (hC : zC G M' d' k0 n0 As S mm Q' X') (hdd : d' + 1 ≤ d) (hk : k0 + k' ≤ k) (hn : n0 + n' ≤ n) (hcat : (rest.map fun v => v.category).sum ≤ 8)
    (kk : ∀ v S' m', Q' v S' m' → zT G M d (pc + 3) V (v.toList ++ rest) S' m' k' n' Q X) (kx : ∀ E q S' m', X' E q S' m' → zTX G M d pc V E q S' m' k' n' Q X) : zT G M d pc V st S mm k n Q X := by
  intro p e s m args below meth c H locs cells slots K N ls F hR hW hlo hc hs hV
  subst hst
  obtain ⟨y, cc, nL, ret, hh⟩ := M'
  obtain ⟨w1, w2, w3, w4, w5, w6, w7⟩ := hl
  simp only at w1 w2 w3 w4 w5 w6 w7
  subst w6
  have hOK := F.2.2.2.2.2.2.2.2.1.1
  have hWs := F.2.2.2.2.2.2.2.2.1.2
  have hts := F.2.2.2.2.2.2.2.1
  refine zfin F hlo hc hs hV hk hn (vx_runS (As := As) (rest := rest) ⟨F.1, F.2.1, F.2.2.1, F.2.2.2.2.2.1, hts⟩ hC (va_cwS ar hts (lw_S w1 w2 w3 w4) rfl rfl rfl w5 ⟨by show d' + 1 ≤ d; omega, by show 8 + (nL + 11) + 64 * d' ≤ 64 * d; omega⟩)
    ⟨zblind, fun U hU hWU => ⟨rfl, hOK, State.WarmedH.trans hWs hWU, by rw [hU]; exact hW, by rw [hU]; exact hR⟩⟩ rfl har hV.1 rfl (lv_room hcat) hd ⟨by show cells + k0 ≤ K; omega, by show slots + n0 ≤ N; omega⟩) kk kx
/-- static, private in a nest mate -/
def zLSN (own : String) (idx ar : Nat) (host : String) (M' : zM) : Prop := Cond.methodLinkNest own idx M'.1 host ∈ lw_tbl ∧ Cond.static M'.1 ∈ lw_all ∧ Cond.initialized M'.1.cls ∈ lw_all ∧ Cond.code M'.1 M'.2.1 M'.2.2.1 M'.2.2.2.1 ∈ lw_all ∧
  (M'.1.cls ≠ "java/lang/invoke/MethodHandle" ∧ M'.1.cls ≠ "java/lang/invoke/VarHandle" ∧ (parseMethodDescriptor M'.1.desc).map (fun d => d.parameters.length) = some ar) ∧ M'.2.2.2.2 = [] ∧ M'.2.2.1 ≤ 45
theorem zT.callSN {M' : zM} {idx ar d' k0 n0 k' n' : Nat} {host : String} {Q' : zQt} {X' : zXt} (As rest : List Value) (hd : decode M.2.1 pc = .ok (.invokestatic idx, 3)) (hl : zLSN M.1.cls idx ar host M') (hst : st = As.reverse ++ rest) (har : As.length = ar)
    (hC : zC G M' d' k0 n0 As S mm Q' X') (hdd : d' + 1 ≤ d) (hk : k0 + k' ≤ k) (hn : n0 + n' ≤ n) (hcat : (rest.map fun v => v.category).sum ≤ 8)
    (kk : ∀ v S' m', Q' v S' m' → zT G M d (pc + 3) V (v.toList ++ rest) S' m' k' n' Q X) (kx : ∀ E q S' m', X' E q S' m' → zTX G M d pc V E q S' m' k' n' Q X) : zT G M d pc V st S mm k n Q X := by
  intro p e s m args below meth c H locs cells slots K N ls F hR hW hlo hc hs hV
  subst hst
  obtain ⟨y, cc, nL, ret, hh⟩ := M'
  obtain ⟨w1, w2, w3, w4, w5, w6, w7⟩ := hl
  simp only at w1 w2 w3 w4 w5 w6 w7
  subst w6
  have hOK := F.2.2.2.2.2.2.2.2.1.1
  have hWs := F.2.2.2.2.2.2.2.2.1.2
  have hts := F.2.2.2.2.2.2.2.1
  refine zfin F hlo hc hs hV hk hn (vx_runSN (As := As) (rest := rest) (host := host) ⟨F.1, F.2.1, F.2.2.1, F.2.2.2.2.2.1, hts⟩ hC ⟨va_cnB ar hts (lw_meth w4) rfl rfl rfl (zNwM hOK hWs w1) (hts _ w3) w5 ⟨by show d' + 1 ≤ d; omega, by show 8 + (nL + 11) + 64 * d' ≤ 64 * d; omega⟩, hts _ w2, trivial⟩
    ⟨zblind, fun U hU hWU => ⟨rfl, hOK, State.WarmedH.trans hWs hWU, by rw [hU]; exact hW, by rw [hU]; exact hR⟩⟩ rfl har hV.1 rfl (lv_room hcat) hd ⟨by show cells + k0 ≤ K; omega, by show slots + n0 ≤ N; omega⟩) kk kx
/-- constructors -/
def zLI (own : String) (idx ar : Nat) (M' : zM) : Prop := Cond.methodLink own idx M'.1 ∈ lw_all ∧ Cond.instanceMethod M'.1 ∈ lw_all ∧ Cond.initialized M'.1.cls ∈ lw_all ∧ Cond.code M'.1 M'.2.1 M'.2.2.1 none ∈ lw_all ∧ M'.2.2.2.1 = none ∧ M'.1.name = "<init>" ∧
  (M'.1.cls ≠ "java/lang/invoke/MethodHandle" ∧ M'.1.cls ≠ "java/lang/invoke/VarHandle" ∧ (parseMethodDescriptor M'.1.desc).map (fun d => d.parameters.length) = some ar) ∧ M'.2.2.2.2 = [] ∧ M'.2.2.1 ≤ 45
theorem zT.callI {M' : zM} {idx ar d' k0 n0 k' n' : Nat} {b : Int} {Q' : zQt} {X' : zXt} (As rest : List Value) (hd : decode M.2.1 pc = .ok (.invokespecial idx, 3)) (hl : zLI M.1.cls idx ar M') (hst : st = As.reverse ++ zR b :: rest) (har : As.length = ar) (hb : 0 ≤ b)
    (hC : zC G M' d' k0 n0 (zR b :: As) S mm Q' X') (hdd : d' + 1 ≤ d) (hk : k0 + k' ≤ k) (hn : n0 + n' ≤ n) (hcat : (rest.map fun v => v.category).sum ≤ 8)
    (kk : ∀ v S' m', Q' v S' m' → zT G M d (pc + 3) V (v.toList ++ rest) S' m' k' n' Q X) (kx : ∀ E q S' m', X' E q S' m' → zTX G M d pc V E q S' m' k' n' Q X) : zT G M d pc V st S mm k n Q X := by
  intro p e s m args below meth c H locs cells slots K N ls F hR hW hlo hc hs hV
  subst hst
  obtain ⟨y, cc, nL, ret, hh⟩ := M'
  obtain ⟨w1, w2, w3, w4, w9, w10, w5, w6, w7⟩ := hl
  simp only at w1 w2 w3 w4 w5 w6 w7 w9 w10
  subst w6
  subst w9
  have hOK := F.2.2.2.2.2.2.2.2.1.1
  have hWs := F.2.2.2.2.2.2.2.2.1.2
  have hts := F.2.2.2.2.2.2.2.1
  rw [zR_pos hb] at hC ⊢
  refine zfin F hlo hc hs hV hk hn (vx_runI (As := As) (rest := rest) ⟨F.1, F.2.1, F.2.2.1, F.2.2.2.2.2.1, hts⟩ hC (cwI ar hts (lw_meth w4) rfl rfl rfl (hts _ w3) (hts _ w1) (hts _ w2) w10 w5 ⟨by show d' + 1 ≤ d; omega, by show 8 + (nL + 11) + 64 * d' ≤ 64 * d; omega⟩)
    ⟨zblind, fun U hU hWU => ⟨rfl, hOK, State.WarmedH.trans hWs hWU, by rw [hU]; exact hW, by rw [hU]; exact hR⟩⟩ rfl har hV.1 rfl (lv_room hcat) hd ⟨by show cells + k0 ≤ K; omega, by show slots + n0 ≤ N; omega⟩) kk kx
def zLIN (own : String) (idx ar : Nat) (host : String) (M' : zM) : Prop := Cond.methodLinkNest own idx M'.1 host ∈ lw_tbl ∧ Cond.instanceMethod M'.1 ∈ lw_all ∧ Cond.initialized M'.1.cls ∈ lw_all ∧ Cond.code M'.1 M'.2.1 M'.2.2.1 none ∈ lw_all ∧ M'.2.2.2.1 = none ∧ M'.1.name = "<init>" ∧
  (M'.1.cls ≠ "java/lang/invoke/MethodHandle" ∧ M'.1.cls ≠ "java/lang/invoke/VarHandle" ∧ (parseMethodDescriptor M'.1.desc).map (fun d => d.parameters.length) = some ar) ∧ M'.2.2.2.2 = [] ∧ M'.2.2.1 ≤ 45
theorem zT.callIN {M' : zM} {idx ar d' k0 n0 k' n' : Nat} {b : Int} {host : String} {Q' : zQt} {X' : zXt} (As rest : List Value) (hd : decode M.2.1 pc = .ok (.invokespecial idx, 3)) (hl : zLIN M.1.cls idx ar host M') (hst : st = As.reverse ++ zR b :: rest) (har : As.length = ar) (hb : 0 ≤ b)
    (hC : zC G M' d' k0 n0 (zR b :: As) S mm Q' X') (hdd : d' + 1 ≤ d) (hk : k0 + k' ≤ k) (hn : n0 + n' ≤ n) (hcat : (rest.map fun v => v.category).sum ≤ 8)
    (kk : ∀ v S' m', Q' v S' m' → zT G M d (pc + 3) V (v.toList ++ rest) S' m' k' n' Q X) (kx : ∀ E q S' m', X' E q S' m' → zTX G M d pc V E q S' m' k' n' Q X) : zT G M d pc V st S mm k n Q X := by
  intro p e s m args below meth c H locs cells slots K N ls F hR hW hlo hc hs hV
  subst hst
  obtain ⟨y, cc, nL, ret, hh⟩ := M'
  obtain ⟨w1, w2, w3, w4, w9, w10, w5, w6, w7⟩ := hl
  simp only at w1 w2 w3 w4 w5 w6 w7 w9 w10
  subst w6
  subst w9
  have hOK := F.2.2.2.2.2.2.2.2.1.1
  have hWs := F.2.2.2.2.2.2.2.2.1.2
  have hts := F.2.2.2.2.2.2.2.1
  rw [zR_pos hb] at hC ⊢
  refine zfin F hlo hc hs hV hk hn (vx_runIN (As := As) (rest := rest) (host := host) ⟨F.1, F.2.1, F.2.2.1, F.2.2.2.2.2.1, hts⟩ hC ⟨va_cnB ar hts (lw_meth w4) rfl rfl rfl (zNwM hOK hWs w1) (hts _ w3) w5 ⟨by show d' + 1 ≤ d; omega, by show 8 + (nL + 11) + 64 * d' ≤ 64 * d; omega⟩, w10, hts _ w2⟩
    ⟨zblind, fun U hU hWU => ⟨rfl, hOK, State.WarmedH.trans hWs hWU, by rw [hU]; exact hW, by rw [hU]; exact hR⟩⟩ rfl har hV.1 rfl (lv_room hcat) hd ⟨by show cells + k0 ≤ K; omega, by show slots + n0 ≤ N; omega⟩) kk kx
theorem zT.objInit {a : Int} {idx : Nat} (hd : decode M.2.1 pc = .ok (.invokespecial idx, 3)) (hl : Cond.methodLink M.1.cls idx objectInit ∈ lw_all) (h2 : Cond.instanceMethod objectInit ∈ lw_all) (h3 : Cond.code objectInit ⟨#[0xb1]⟩ 1 none ∈ lw_all) (ha : 0 ≤ a) (hdd : 1 ≤ d) (hcat : (st.map fun v => v.category).sum ≤ 8)
    (kk : zT G M d (pc + 3) V st S mm k n Q X) : zT G M d pc V (zR a :: st) S mm k n Q X := by
  intro p e s m args below meth c H locs cells slots K N ls F hR hW hlo hc hs hV
  have hts := F.2.2.2.2.2.2.2.1
  rw [zR_pos ha]
  exact W.objInit F.1 F.2.1 F.2.2.2.2.2.1 (hts _ hl) (hts _ h2) (hts _ h3) rfl (hV.1.trans F.2.2.1.symm) rfl hd (show 1 ≤ d from hdd) (by show 2 * 0 + (st.map fun v => v.category).sum + 12 ≤ 64 * d; omega) (kk p e s m args below meth c H locs cells slots K N ls F hR hW hlo hc hs hV)
end
