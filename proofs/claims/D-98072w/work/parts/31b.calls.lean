/-! MORE CALLS: methods with handlers; inherited, overriding and private methods found by the receiver -/
section
variable {G : zG} {M : zM} {d pc : Nat} {V st : List Value} {S : zS} {mm : zMm} {k n : Nat} {Q : zQt} {X : zXt}
def zLVW (own : String) (idx ar : Nat) (C : String) (M' : zM) : Prop := Cond.methodLink own idx M'.1 ∈ lw_all ∧ Cond.instanceMethod M'.1 ∈ lw_all ∧ Cond.selects C M'.1 M'.1 ∈ lw_all ∧ Cond.initialized C ∈ lw_all ∧ Cond.codeWith M'.1 M'.2.1 M'.2.2.1 M'.2.2.2.1 M'.2.2.2.2 ∈ lw_all ∧
  (M'.1.cls = C ∧ M'.1.cls ≠ "java/lang/invoke/MethodHandle" ∧ M'.1.cls ≠ "java/lang/invoke/VarHandle" ∧ (parseMethodDescriptor M'.1.desc).map (fun d => d.parameters.length) = some ar) ∧ M'.2.2.2.2 ≠ [] ∧ M'.2.2.1 ≤ 45
theorem zT.callVW {M' : zM} {idx ar ci d' k0 n0 k' n' : Nat} {r : vw_C} {b : Int} {Q' : zQt} {X' : zXt} (As rest : List Value) (hd : decode M.2.1 pc = .ok (.invokevirtual idx, 3)) (hl : zLVW M.1.cls idx ar r.1 M') (hst : st = As.reverse ++ zR b :: rest) (har : As.length = ar) (hr : zcl[ci]? = some r) (hb : zk S b = ci + 1)
    (hC : zC G M' d' k0 n0 (zR b :: As) S mm Q' X') (hdd : d' + 1 ≤ d) (hk : k0 + k' ≤ k) (hn : n0 + n' ≤ n) (hcat : (rest.map fun v => v.category).sum ≤ 8)
    (kk : ∀ v S' m', Q' v S' m' → zT G M d (pc + 3) V (v.toList ++ rest) S' m' k' n' Q X) (kx : ∀ E q S' m', X' E q S' m' → zTX G M d pc V E q S' m' k' n' Q X) : zT G M d pc V st S mm k n Q X := by
  intro p e s m args below meth c H locs cells slots K N ls F hR hW hlo hc hs hV
  obtain ⟨q, rfl, hq1, hq2⟩ := hR.at (a := b) (by omega)
  subst hst
  obtain ⟨y, cc, nL, ret, hh⟩ := M'
  obtain ⟨w1, w2, w3, w4, w5, w6, w7, w8⟩ := hl
  simp only at w1 w2 w3 w4 w5 w6 w7 w8
  cases hh with
  | nil => exact absurd rfl w7
  | cons h1 hh =>
  have hOK := F.2.2.2.2.2.2.2.2.1.1
  have hWs := F.2.2.2.2.2.2.2.2.1.2
  have hts := F.2.2.2.2.2.2.2.1
  rw [zR_n] at hC ⊢
  refine zfin F hlo hc hs hV hk hn (vx_runVX (hh := h1 :: hh) (As := As) (rest := rest) (C := r.1) ⟨F.1, F.2.1, F.2.2.1, F.2.2.2.2.2.1, hts⟩ hC (vx_cwVW ar hts (lw_VW w1 w2 w3 w4 w5) rfl rfl rfl w6 ⟨by show d' + 1 ≤ d; omega, by show 8 + (nL + 11) + 64 * d' ≤ 64 * d; omega⟩)
    ⟨zblind, zobj hOK hWs hR hb hr, fun U hU hWU => ⟨rfl, hOK, State.WarmedH.trans hWs hWU, by rw [hU]; exact hW, by rw [hU]; exact hR⟩⟩ rfl har hV.1 rfl (lv_room hcat) hd ⟨by show cells + k0 ≤ K; omega, by show slots + n0 ≤ N; omega⟩) kk kx
def zLSW (own : String) (idx ar : Nat) (M' : zM) : Prop := Cond.methodLink own idx M'.1 ∈ lw_all ∧ Cond.static M'.1 ∈ lw_all ∧ Cond.initialized M'.1.cls ∈ lw_all ∧ Cond.codeWith M'.1 M'.2.1 M'.2.2.1 M'.2.2.2.1 M'.2.2.2.2 ∈ lw_all ∧
  (M'.1.cls ≠ "java/lang/invoke/MethodHandle" ∧ M'.1.cls ≠ "java/lang/invoke/VarHandle" ∧ (parseMethodDescriptor M'.1.desc).map (fun d => d.parameters.length) = some ar) ∧ M'.2.2.2.2 ≠ [] ∧ M'.2.2.1 ≤ 45
theorem zT.callSW {M' : zM} {idx ar d' k0 n0 k' n' : Nat} {Q' : zQt} {X' : zXt} (As rest : List Value) (hd : decode M.2.1 pc = .ok (.invokestatic idx, 3)) (hl : zLSW M.1.cls idx ar M') (hst : st = As.reverse ++ rest) (har : As.length = ar)
    (hC : zC G M' d' k0 n0 As S mm Q' X') (hdd : d' + 1 ≤ d) (hk : k0 + k' ≤ k) (hn : n0 + n' ≤ n) (hcat : (rest.map fun v => v.category).sum ≤ 8)
    (kk : ∀ v S' m', Q' v S' m' → zT G M d (pc + 3) V (v.toList ++ rest) S' m' k' n' Q X) (kx : ∀ E q S' m', X' E q S' m' → zTX G M d pc V E q S' m' k' n' Q X) : zT G M d pc V st S mm k n Q X := by
  intro p e s m args below meth c H locs cells slots K N ls F hR hW hlo hc hs hV
  subst hst
  obtain ⟨y, cc, nL, ret, hh⟩ := M'
  obtain ⟨w1, w2, w3, w4, w5, w6, w7⟩ := hl
  simp only at w1 w2 w3 w4 w5 w6 w7
  cases hh with
  | nil => exact absurd rfl w6
  | cons h1 hh =>
  have hOK := F.2.2.2.2.2.2.2.2.1.1
  have hWs := F.2.2.2.2.2.2.2.2.1.2
  have hts := F.2.2.2.2.2.2.2.1
  refine zfin F hlo hc hs hV hk hn (vx_runSX (hh := h1 :: hh) (As := As) (rest := rest) ⟨F.1, F.2.1, F.2.2.1, F.2.2.2.2.2.1, hts⟩ hC (vx_cwSW ar hts (lw_SW w1 w2 w3 w4) rfl rfl rfl w5 ⟨by show d' + 1 ≤ d; omega, by show 8 + (nL + 11) + 64 * d' ≤ 64 * d; omega⟩)
    ⟨zblind, fun U hU hWU => ⟨rfl, hOK, State.WarmedH.trans hWs hWU, by rw [hU]; exact hW, by rw [hU]; exact hR⟩⟩ rfl har hV.1 rfl (lv_room hcat) hd ⟨by show cells + k0 ≤ K; omega, by show slots + n0 ≤ N; omega⟩) kk kx
/-- a private method's word 'selects', by a receiver of any class: w0 is the word of another method of the same class, found by the same receiver -/
theorem zSelP {s : State} {args : Array Value} {C : String} {y z : MethodName} (hC : y.cls = z.cls) (hy : y.cls ≠ "java/lang/invoke/MethodHandle" ∧ y.cls ≠ "java/lang/invoke/VarHandle") (h0 : (Cond.selects C z z).before args s = true) (hpriv : (Cond.privateMethod y).before args s = true) (hinst : (Cond.instanceMethod y).before args s = true) :
    (Cond.selects C y y).before args s = true := by
  obtain ⟨c2, r2, m2, q1, q2, q3, q4, kP, hkP, hkPi⟩ := Cond.selects_spec h0
  obtain ⟨mk, methM, hnamed, hmethM, -, -⟩ := Cond.instanceMethod_spec hinst
  have hfound : s.methodFound? y.cls y.name y.desc = some mk := State.methodFound?_of_named hnamed hy
  have hcls : mk.cls = m2.cls := by
    have a := findClass_of_methodNamed hnamed
    have b := findClass_of_methodNamed q3
    rw [hC] at a
    exact Option.some.inj (a.symm.trans b)
  have hsel : selectMethod {} s.vm c2 mk = .method mk := selectMethod_private hmethM (Cond.privateMethod_at hpriv mk methM hnamed hmethM)
  simp only [Cond.before, Cond.holds, Cond.value, q1, hfound, hnamed, hsel, hcls, hkP]
  simp
  exact hkPi
/-- 'selects' of a virtual call: a word of the list, or a private method's -/
def zSl (C : String) (x y : MethodName) : Prop := Cond.selects C x y ∈ lw_all ∨ (x = y ∧ ∃ z, y.cls = z.cls ∧ (y.cls ≠ "java/lang/invoke/MethodHandle" ∧ y.cls ≠ "java/lang/invoke/VarHandle") ∧ Cond.selects C z z ∈ lw_all ∧ Cond.privateMethod y ∈ lw_tbl ∧ Cond.instanceMethod y ∈ lw_all)
theorem zSl.use {s : State} {args : Array Value} {C : String} {x y : MethodName} (h : zSl C x y) (hts : ∀ w ∈ lw_all, w.before args s = true) (hOK : zOK G) (hW : (gs G).WarmedH s.vm) : (Cond.selects C x y).before args s = true := by
  rcases h with h | ⟨rfl, z, h1, h2, h3, h4, h5⟩
  · exact hts _ h
  · exact word_at hW (good_of_word rfl) (zSelP h1 h2 (hOK.1 _ (lw_all_tbl h3)) (hOK.1 _ h4) (hOK.1 _ (lw_all_tbl h5)))
/-- what a virtual call asks whose method is declared in a class above -/
def zLU (own : String) (idx ar : Nat) (C : String) (x : MethodName) (owner : String) (M' : zM) : Prop := Cond.methodLink own idx x ∈ lw_all ∧ Cond.sameMethod x.cls owner x.name x.desc ∈ lw_all ∧ (Cond.declares ⟨owner, x.name, x.desc⟩ ∈ lw_tbl ∨ M'.1 = ⟨owner, x.name, x.desc⟩) ∧ zSl C x M'.1 ∧ Cond.instanceMethod M'.1 ∈ lw_all ∧ Cond.initialized M'.1.cls ∈ lw_all ∧
  Cond.code M'.1 M'.2.1 M'.2.2.1 M'.2.2.2.1 ∈ lw_all ∧ (owner ≠ "java/lang/invoke/MethodHandle" ∧ owner ≠ "java/lang/invoke/VarHandle" ∧ (parseMethodDescriptor x.desc).map (fun d => d.parameters.length) = some ar) ∧ M'.2.2.2.2 = [] ∧ M'.2.2.1 ≤ 45
theorem zT.callU {M' : zM} {idx ar ci d' k0 n0 k' n' : Nat} {r : vw_C} {b : Int} {x : MethodName} {owner : String} {Q' : zQt} {X' : zXt} (As rest : List Value) (hd : decode M.2.1 pc = .ok (.invokevirtual idx, 3)) (hl : zLU M.1.cls idx ar r.1 x owner M') (hst : st = As.reverse ++ zR b :: rest) (har : As.length = ar) (hr : zcl[ci]? = some r) (hb : zk S b = ci + 1)
    (hC : zC G M' d' k0 n0 (zR b :: As) S mm Q' X') (hdd : d' + 1 ≤ d) (hk : k0 + k' ≤ k) (hn : n0 + n' ≤ n) (hcat : (rest.map fun v => v.category).sum ≤ 8)
    (kk : ∀ v S' m', Q' v S' m' → zT G M d (pc + 3) V (v.toList ++ rest) S' m' k' n' Q X) (kx : ∀ E q S' m', X' E q S' m' → zTX G M d pc V E q S' m' k' n' Q X) : zT G M d pc V st S mm k n Q X := by
  intro p e s m args below meth c H locs cells slots K N ls F hR hW hlo hc hs hV
  obtain ⟨q, rfl, hq1, hq2⟩ := hR.at (a := b) (by omega)
  subst hst
  obtain ⟨y, cc, nL, ret, hh⟩ := M'
  obtain ⟨w1, w2, w3, w4, w5, w6, w7, w8, w9, w10⟩ := hl
  simp only at w1 w2 w3 w4 w5 w6 w7 w8 w9 w10
  subst w9
  have hOK := F.2.2.2.2.2.2.2.2.1.1
  have hWs := F.2.2.2.2.2.2.2.2.1.2
  have hts := F.2.2.2.2.2.2.2.1
  rw [zR_n] at hC ⊢
  have hdec : va_Decl s ⟨owner, x.name, x.desc⟩ := by
    rcases w3 with w3 | w3
    · exact va_Decl.abs (va_Nw.warmD hWs (va_Nw.of (A := #[Value.ref (gb G)]) rfl (hOK.1 _ w3)))
    · rw [← w3]
      exact va_Decl.of (hts _ w5) (hts _ w7)
  have hlen : ∀ sig, parseMethodDescriptor x.desc = some sig → ar = sig.parameters.length := fun sig h => by
    have h2 := w8.2.2
    rw [h] at h2
    exact (Option.some.inj h2).symm
  refine zfin F hlo hc hs hV hk hn (vx_runU (As := As) (rest := rest) (C := r.1) (owner := owner) ⟨F.1, F.2.1, F.2.2.1, F.2.2.2.2.2.1, hts⟩ hC
    ⟨⟨rfl, rfl, by show d' + 1 ≤ d; omega, by show 8 + (nL + 11) + 64 * d' ≤ 64 * d; omega, pay_in hts (lw_meth w7), List.mem_cons_self⟩, hts _ w7, hts _ w6, ⟨w8.1, w8.2.1⟩, hlen, hts _ w1, hts _ w2, hdec, w4.use hts hOK hWs, hts _ w5⟩
    ⟨zblind, zobj hOK hWs hR hb hr, fun U hU hWU => ⟨rfl, hOK, State.WarmedH.trans hWs hWU, by rw [hU]; exact hW, by rw [hU]; exact hR⟩⟩ rfl har hV.1 rfl (lv_room hcat) hd ⟨by show cells + k0 ≤ K; omega, by show slots + n0 ≤ N; omega⟩) kk kx
end
