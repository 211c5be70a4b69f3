/-! RETURNS, NEW CELLS, THE SCRIPT -/
section
variable {G : zG} {M : zM} {d pc : Nat} {V st : List Value} {S : zS} {mm : zMm} {k n : Nat} {Q : zQt} {X : zXt}
theorem zQc_of {v : Option Value} (h : Q v S mm) {H : Heap} (hR : zRep G S mm H) (hW : zLw G H) {args : Array Value} {s t : State} (ht : t.heap = H) : zQc G Q args s (.returned v) t :=
  ⟨v, S, mm, rfl, h, by rw [ht]; exact hR, by rw [ht]; exact hW⟩
theorem zT.iret {x : Int} (hd : decode M.2.1 pc = .ok (.ireturn, 1)) (hr : M.2.2.2.1 = some .int) (h : Q (some (zI x)) S mm) : zT G M d pc V [zI x] S mm k n Q X := by
  intro p e s m args below meth c H locs cells slots K N ls F hR hW hlo hc hs hV
  exact vx_ret (W.widen (k := K) (n := N) (by omega) (by omega) (W.iret (v := Int32.ofInt x) F.1 F.2.1 (F.2.2.2.1.trans hr) (fun t ht _ => zQc_of h hR hW ht) hlo hd F.2.2.2.2.1))
theorem zT.zret {x : Int} (hd : decode M.2.1 pc = .ok (.ireturn, 1)) (hr : M.2.2.2.1 = some .boolean) (h01 : x = 0 ∨ x = 1) (h : Q (some (zI x)) S mm) : zT G M d pc V [zI x] S mm k n Q X := by
  intro p e s m args below meth c H locs cells slots K N ls F hR hW hlo hc hs hV
  have hx : narrow .boolean (.int (Int32.ofInt x)) = .int (Int32.ofInt x) := by
    rcases h01 with rfl | rfl <;> decide +kernel
  exact vx_ret (W.widen (k := K) (n := N) (by omega) (by omega) (W.zret (v := Int32.ofInt x) F.1 F.2.1 (F.2.2.2.1.trans hr) hx (fun t ht _ => zQc_of h hR hW ht) hlo hd F.2.2.2.2.1))
theorem zT.lret {x : Int} (hd : decode M.2.1 pc = .ok (.lreturn, 1)) (hr : M.2.2.2.1 = some .long) (h : Q (some (zJ x)) S mm) : zT G M d pc V [zJ x] S mm k n Q X := by
  intro p e s m args below meth c H locs cells slots K N ls F hR hW hlo hc hs hV
  exact vx_ret (W.widen (k := K) (n := N) (by omega) (by omega) (W.lret (v := Int64.ofInt x) F.1 F.2.1 (F.2.2.2.1.trans hr) (fun t ht _ => zQc_of h hR hW ht) hlo hd F.2.2.2.2.1))
theorem zT.vret (hd : decode M.2.1 pc = .ok (.return_, 1)) (hr : M.2.2.2.1 = none) (h : Q none S mm) : zT G M d pc V [] S mm k n Q X := by
  intro p e s m args below meth c H locs cells slots K N ls F hR hW hlo hc hs hV
  exact vx_ret (W.widen (k := K) (n := N) (by omega) (by omega) (W.vret F.1 F.2.1 (F.2.2.2.1.trans hr) (fun t ht _ => zQc_of h hR hW ht) hlo hd F.2.2.2.2.1))
theorem zT.aret {x : Int} {rt : FieldType} (hd : decode M.2.1 pc = .ok (.areturn, 1)) (hr : M.2.2.2.1 = some rt) (hrt : (∃ n, rt = .object n) ∨ ∃ t, rt = .array t) (h : Q (some (zR x)) S mm) : zT G M d pc V [zR x] S mm k n Q X := by
  intro p e s m args below meth c H locs cells slots K N ls F hR hW hlo hc hs hV
  have hv : zR x = .null ∨ ∃ a, zR x = .ref a := by
    rcases Int.lt_or_le x 0 with q | q
    · exact Or.inl (zR_neg q)
    · exact Or.inr ⟨_, zR_pos q⟩
  exact vx_ret (W.widen (k := K) (n := N) (by omega) (by omega) (W.aret (v := zR x) F.1 F.2.1 (F.2.2.2.1.trans hr) hrt hv (fun t ht _ => zQc_of h hR hW ht) hlo hd F.2.2.2.2.1))
/-- room, posts -/
theorem zT.mono {k' n' : Nat} {Q' : zQt} {X' : zXt} (h : zT G M d pc V st S mm k' n' Q' X') (hk : k' ≤ k) (hn : n' ≤ n) (hQ : ∀ v S m, Q' v S m → Q v S m) (hX : ∀ E q S m, X' E q S m → X E q S m) : zT G M d pc V st S mm k n Q X := by
  intro p e s m args below meth c H locs cells slots K N ls F hR hW hlo hc hs hV T hT Xs
  obtain ⟨t, a1, o, b1, b2, b3⟩ := h p e s m args below meth c H locs cells slots K N ls F hR hW hlo (by omega) (by omega) hV T hT Xs
  refine ⟨t, a1, o, b1, b2, ?_⟩
  rcases b3 with ⟨⟨v, S2, m2, e1, e2, e3⟩, b4⟩ | ⟨q, e0, E, ce, L, ⟨S2, m2, e1, e2⟩, b4⟩
  · exact Or.inl ⟨⟨v, S2, m2, e1, hQ _ _ _ e2, e3⟩, b4⟩
  · exact Or.inr ⟨q, e0, E, ce, L, ⟨S2, m2, hX _ _ _ _ e1, e2⟩, b4⟩
theorem zT.room {k' n' : Nat} (h : zT G M d pc V st S mm k' n' Q X) (hk : k' ≤ k) (hn : n' ≤ n) : zT G M d pc V st S mm k n Q X := h.mono hk hn (fun _ _ _ h => h) (fun _ _ _ _ h => h)
theorem zT.loc {V' : List Value} (h : zT G M d pc V' st S mm k n Q X) (hs : zSub V V') : zT G M d pc V st S mm k n Q X := by
  intro p e s m args below meth c H locs cells slots K N ls F hR hW hlo hc hsl hV
  exact h p e s m args below meth c H locs cells slots K N ls F hR hW hlo hc hsl ⟨hV.1, hV.2.1, fun i v h1 h2 => hV.2.2 i v (hs.at i v h1 h2) h2⟩
/-! new cells -/
theorem zbornT : ∀ i : Fin 16, ∀ k : Fin 64, k.val < zN i.val → (parseFieldDescriptor (zfo (zid i.val k.val)).2.2.1).map defaultValue = some (match zty (zid i.val k.val) with | 0 => zI 0 | 1 => zJ 0 | _ => .null) := by decide +kernel
theorem zT.new {idx ci N' k' n' : Nat} {r : vw_C} (hd : decode M.2.1 pc = .ok (.new idx, 3)) (hr : zcl[ci]? = some r) (hl : Cond.classLink M.1.cls idx r.1 ∈ lw_all) (hins : Cond.instantiable r.1 N' ∈ lw_all) (hini : Cond.initialized r.1 ∈ lw_all) (hk : k' + 1 ≤ k) (hn : n' + N' ≤ n)
    (kk : zT G M d (pc + 3) V (zR (zx S) :: st) (zal S (ci + 1) 0) (znw mm (ci + 1) (zx S)) k' n' Q X) : zT G M d pc V st S mm k n Q X := by
  intro p e s m args below meth c H locs cells slots K N ls F hR hW hlo hc hs hV
  have hts := F.2.2.2.2.2.2.2.1
  have hKs := zKs F.2.2.2.2.2.2.2.2.1.1 F.2.2.2.2.2.2.2.2.1.2
  have hKn := hKs.1 ci r hr
  obtain ⟨ty, hty⟩ := zcl_ty hr
  refine W.newcK F.1 F.2.1 F.2.2.2.2.2.1 (hts _ hl) (hts _ hins) (hts _ hini) rfl hd (show cells + 1 ≤ K by omega) (show slots + N' ≤ N by omega) hKn.2.1 rfl fun H' kC hkC e1 z1 o1 => ?_
  have hR' : zRep G (zal S (ci + 1) 0) (znw mm (ci + 1) (zx S)) H' := by
    refine hR.new hW.1 z1 o1 ?_ (fun h => by have := zcl_len hr; omega)
    intro ci' r' h1 h2
    have e : ci' = ci := by omega
    subst e
    cases hr.symm.trans h2
    refine (u_born ty hts (zcl_in hr) hKn hkC e1 hty).to (fun j hj => ?_)
    have hj' := hj
    rw [zcl_N hr] at hj'
    have hj64 : j < 64 := Nat.lt_of_lt_of_le hj' (by have : ∀ i : Fin 16, zN i.val ≤ 64 := by decide +kernel
                                                     exact this ⟨ci', zcl_len hr⟩)
    have hb := zbornT ⟨ci', zcl_len hr⟩ ⟨j, hj64⟩ hj'
    simp only at hb
    rw [← zcl_fo hr hj, hty j hj] at hb
    have hb2 := Option.some.inj hb
    show defaultValue (ty j) = _
    rw [hb2]
    have hc1 : ci' + 1 < 100 := by have := zcl_len hr; omega
    have hz : znw mm (ci' + 1) (zx S) (H.size : Nat) (zid ci' j) = zdf (ci' + 1) (zid ci' j) := if_pos hR.1.symm
    have hf : zf (zal S (ci' + 1) 0) (H.size : Nat) (zid ci' j) = -1 := if_pos hR.1.symm
    unfold zfv
    rw [hz, hf]
    unfold zdf
    match h : zty (zid ci' j) with
    | 0 =>
      simp only
      rw [if_neg (by omega)]
    | 1 =>
      simp only
      rw [if_neg (by omega)]
    | 2 =>
      simp only
      rw [if_pos (by omega)]
      rfl
    | q + 3 => rfl
  have e0 : zR (zx S) = .ref H.size := by rw [hR.1, zR_n]
  rw [e0] at kk
  exact kk p e s m args below meth c H' locs (cells + 1) (slots + N') K N ls F hR' ⟨by rw [z1]; exact Nat.le_succ_of_le hW.1, fun x hx => by rw [o1 x (Nat.lt_of_lt_of_le hx hW.1)]; exact hW.2 x hx⟩ hlo (by omega) (by omega) hV
theorem zdvA : ∀ κ ∈ [101, 102, 103, 104], defaultValue (zarr κ) = zav κ 0 := by decide +kernel
theorem zcbA : ∀ κ ∈ zks, componentBytes (zarr κ) ≤ 8 := by decide +kernel
theorem zarN {s : State} {κ : Nat} (h : zOK G) (hW : (gs G).WarmedH s.vm) (hκ : κ ∈ zks) {cA : ClassId} (hf : s.vm.findClass ("[" ++ (zarr κ).toString) = some cA) : cA = gA G κ := by
  have h2 := (zArr h hW hκ).2
  have h3 : s.vm.findClass ("[" ++ (zarr κ).toString) = some (gA G κ) := by
    have h4 : ∀ κ ∈ zks, (∃ C, zarr κ = .object C) ∨ ∀ (U : State) (cA : ClassId), va_RA U cA (zarr κ) → U.vm.findClass ("[" ++ (zarr κ).toString) = some cA := by
      intro κ hκ
      simp only [zks, List.mem_cons, List.not_mem_nil, or_false] at hκ
      rcases hκ with rfl | rfl | rfl | rfl | rfl | rfl | rfl | rfl | rfl
      · exact Or.inr fun U cA h => h
      · exact Or.inr fun U cA h => h
      · exact Or.inr fun U cA h => h
      · exact Or.inr fun U cA h => h
      all_goals exact Or.inl ⟨_, rfl⟩
    rcases h4 κ hκ with ⟨C, hC⟩ | h5
    · rw [hC] at h2 ⊢
      obtain ⟨_, _, _, _, _, h6⟩ := h2
      exact h6
    · exact h5 _ _ h2
  exact Option.some.inj (hf.symm.trans h3)
theorem zT.newa {x : Int} {k' n' κ : Nat} {atype : ArrayType} (hd : decode M.2.1 pc = .ok (.newarray atype, 2)) (hty : newarray.typeOf atype = zarr κ) (hκ : κ ∈ [101, 102, 103, 104]) (hw : Cond.arrayClass (zarr κ) ∈ lw_all) (h0 : 0 ≤ x) (h1 : x ≤ 1000000) (hk : k' + 1 ≤ k) (hn : n' + x.toNat ≤ n)
    (kk : zT G M d (pc + 2) V (zR (zx S) :: st) (zal S κ x) (znw mm κ (zx S)) k' n' Q X) : zT G M d pc V (zI x :: st) S mm k n Q X := by
  intro p e s m args below meth c H locs cells slots K N ls F hR hW hlo hc hs hV
  have hts := F.2.2.2.2.2.2.2.1
  have hκ2 : κ ∈ zks := (by decide : ∀ κ ∈ [101, 102, 103, 104], κ ∈ zks) _ hκ
  have hκ3 : 100 < κ ∧ κ < 110 := (by decide : ∀ κ ∈ [101, 102, 103, 104], 100 < κ ∧ κ < 110) _ hκ
  refine va_newaK F.1 F.2.1 (by rw [hty]; exact hts _ hw) rfl hd rfl (by rw [zi_lt0 ⟨by omega, by omega⟩]; omega) (zi_cl h0 (by omega)) ?_ (show cells + 1 ≤ K by omega) (show slots + x.toNat ≤ N by omega) rfl fun H' cA e1 z1 o1 hAr hNm => ?_
  · rw [hty]
    have := zcbA κ hκ2
    have h3 : x.toNat * componentBytes (zarr κ) ≤ 1000000 * 8 := Nat.mul_le_mul (by omega) this
    omega
  rw [hty] at e1 hNm
  have hcA := zarN F.2.2.2.2.2.2.2.2.1.1 F.2.2.2.2.2.2.2.2.1.2 hκ2 hNm
  subst hcA
  have hR' : zRep G (zal S κ x) (znw mm κ (zx S)) H' := by
    refine hR.new hW.1 z1 o1 (fun ci r h1 h2 => by have := zcl_len h2; omega) (fun _ => ⟨h0, by omega, ?_⟩)
    rw [e1]
    congr 2
    funext j
    rw [zdvA κ hκ]
    congr 1
    unfold zdf
    rw [if_neg (by omega)]
  have e0 : zR (zx S) = .ref H.size := by rw [hR.1, zR_n]
  rw [e0] at kk
  exact kk p e s m args below meth c H' locs (cells + 1) (slots + x.toNat) K N ls F hR' ⟨by rw [z1]; exact Nat.le_succ_of_le hW.1, fun x hx => by rw [o1 x (Nat.lt_of_lt_of_le hx hW.1)]; exact hW.2 x hx⟩ hlo (by omega) (by omega) hV
theorem zT.newq {x : Int} {idx k' n' κ : Nat} {C : String} (hd : decode M.2.1 pc = .ok (.anewarray idx, 3)) (hC : zarr κ = .object C) (hκ : κ ∈ [111, 112, 113, 114, 115]) (hl : Cond.classLink M.1.cls idx C ∈ lw_all) (hw : Cond.arrayOver (.object C) ∈ lw_tbl) (h0 : 0 ≤ x) (h1 : x ≤ 1000000) (hk : k' + 1 ≤ k) (hn : n' + x.toNat ≤ n)
    (kk : zT G M d (pc + 3) V (zR (zx S) :: st) (zal S κ x) (znw mm κ (zx S)) k' n' Q X) : zT G M d pc V (zI x :: st) S mm k n Q X := by
  intro p e s m args below meth c H locs cells slots K N ls F hR hW hlo hc hs hV
  have hts := F.2.2.2.2.2.2.2.1
  have hκ2 : κ ∈ zks := (by decide : ∀ κ ∈ [111, 112, 113, 114, 115], κ ∈ zks) _ hκ
  have hκ3 : 110 ≤ κ := (by decide : ∀ κ ∈ [111, 112, 113, 114, 115], 110 ≤ κ) _ hκ
  have hAO : va_AO C s := va_AO.moved F.2.2.2.2.2.2.2.2.1.2.alike (va_AO.of (F.2.2.2.2.2.2.2.2.1.1.1 _ hw))
  have hin : (Cond.arrayOver (.object C)).before args s = true := va_AO.use hAO
  refine W.anew F.1 F.2.1 F.2.2.2.2.2.1 (hts _ hl) hin rfl hd rfl (by rw [zi_lt0 ⟨by omega, by omega⟩]; omega) (by rw [zi_cl h0 (by omega)]; omega) (show cells + 1 ≤ K by omega) (show slots + (Int32.ofInt x).toNatClampNeg ≤ N by rw [zi_cl h0 (by omega)]; omega) fun cA kA comp a1 a2 a3 a4 => ?_
  rw [zi_cl h0 (by omega)]
  rw [← hC] at a1
  have hcA := zarN F.2.2.2.2.2.2.2.2.1.1 F.2.2.2.2.2.2.2.2.1.2 hκ2 a1
  subst hcA
  have z1 : (H.push { cls := gA G κ, slots := Array.replicate x.toNat .null, vm := .none }).size = H.size + 1 := Array.size_push _
  have o1 : ∀ q : Nat, q < H.size → (H.push { cls := gA G κ, slots := Array.replicate x.toNat .null, vm := .none })[q]? = H[q]? := fun q hq => by
    rw [Array.getElem?_push, if_neg (Nat.ne_of_lt hq)]
  have hR' : zRep G (zal S κ x) (znw mm κ (zx S)) (H.push { cls := gA G κ, slots := Array.replicate x.toNat .null, vm := .none }) := by
    refine hR.new hW.1 z1 o1 (fun ci r h1 h2 => by have := zcl_len h2; omega) (fun _ => ⟨h0, by omega, ?_⟩)
    have ef : (fun j : Nat => zav κ (zdf κ j)) = fun _ => Value.null := by
      funext j
      unfold zav zdf
      rw [if_neg (by omega), if_pos hκ3, if_pos (Or.inl hκ3)]
      rfl
    rw [ef, ← arrV_new]
    simp
  have e0 : zR (zx S) = .ref H.size := by rw [hR.1, zR_n]
  rw [e0] at kk
  exact kk p e s m args below meth c _ locs (cells + 1) (slots + x.toNat) K N ls F hR' ⟨by rw [z1]; exact Nat.le_succ_of_le hW.1, fun x hx => by rw [o1 x (Nat.lt_of_lt_of_le hx hW.1)]; exact hW.2 x hx⟩ hlo (by omega) (by omega) hV
/-! the script -/
theorem zT.sld {x : Int} (hd : decode M.2.1 pc = .ok (.iaload, 1)) (h0 : 0 ≤ x) (h1 : x < gL G) (hL : gL G ≤ 384) (kk : zT G M d (pc + 1) V (zI (gx G x.toNat).toInt :: st) S mm k n Q X) : zT G M d pc V (zI x :: zR (gb G) :: st) S mm k n Q X := by
  intro p e s m args below meth c H locs cells slots K N ls F hR hW hlo hc hs hV
  obtain ⟨scr, q1, q2, q3, q4, q5⟩ := F.2.2.2.2.2.2.2.2.1.1.2.2.2.1
  have hbl := F.2.2.2.2.2.2.2.2.1.1.2.2.2.2.1
  have h2 := kk p e s m args below meth c H locs cells slots K N ls F hR hW hlo hc hs hV
  rw [← zI_of] at h2
  rw [zR_n]
  refine W.iald (v := .int (gx G x.toNat)) F.1 F.2.1 (by rw [hW.2 _ hbl]; exact q1) (State.isArrayOf_alike F.2.2.2.2.2.2.2.2.1.2.alike q2) q3 ?_ ?_ rfl rfl hd h2
  · rw [q4, zi_cl h0 (by omega), zi_lt0 ⟨by omega, by omega⟩]
    omega
  · rw [zi_cl h0 (by omega)]
    exact q5 _ (by omega)
theorem zT.slen (hd : decode M.2.1 pc = .ok (.arraylength, 1)) (kk : zT G M d (pc + 1) V (zI (gL G) :: st) S mm k n Q X) : zT G M d pc V (zR (gb G) :: st) S mm k n Q X := by
  intro p e s m args below meth c H locs cells slots K N ls F hR hW hlo hc hs hV
  obtain ⟨scr, q1, q2, q3, q4, q5⟩ := F.2.2.2.2.2.2.2.2.1.1.2.2.2.1
  have hbl := F.2.2.2.2.2.2.2.2.1.1.2.2.2.2.1
  have h2 := kk p e s m args below meth c H locs cells slots K N ls F hR hW hlo hc hs hV
  rw [zR_n]
  refine W.alen (n := Int32.ofInt (gL G)) F.1 F.2.1 (by rw [hW.2 _ hbl]; exact q1) (State.isArrayOf_alike F.2.2.2.2.2.2.2.2.1.2.alike q2) ?_ rfl rfl hd h2
  rw [q4]
  show Int32.ofNat _ = _
  rw [← Int32.ofInt_eq_ofNat]
end
