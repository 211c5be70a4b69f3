/-! MANY WORDS AT ONCE; System.arraycopy; REFERENCES INTO ARRAYS -/
/-- from lo on below hi the words of a are f's -/
def zfl (m : zMm) (a lo hi : Int) (f : Int → Int) : zMm := fun b j => if b = a ∧ lo ≤ j ∧ j < hi then f j else m b j
theorem zfl_at {m : zMm} {a lo hi : Int} {f : Int → Int} {j : Int} (h0 : lo ≤ j) (h1 : j < hi) : zfl m a lo hi f a j = f j := by
  unfold zfl
  rw [if_pos ⟨rfl, h0, h1⟩]
theorem zfl_ne {m : zMm} {a lo hi : Int} {f : Int → Int} {b j : Int} (h : ¬ (b = a ∧ lo ≤ j ∧ j < hi)) : zfl m a lo hi f b j = m b j := by
  unfold zfl
  rw [if_neg h]
theorem zfl_0 {m : zMm} {a lo : Int} {f : Int → Int} : zfl m a lo lo f = m := by
  funext b j
  exact zfl_ne (by omega)
theorem zfl_s {m : zMm} {a lo hi : Int} {f : Int → Int} (h : lo ≤ hi) : zup (zfl m a lo hi f) a hi (f hi) = zfl m a lo (hi + 1) f := by
  funext b j
  unfold zup zfl
  by_cases h1 : b = a ∧ j = hi
  · rw [if_pos h1, if_pos (by omega), h1.2]
  · rw [if_neg h1]
    by_cases h2 : b = a ∧ lo ≤ j ∧ j < hi
    · rw [if_pos h2, if_pos (by omega)]
    · rw [if_neg h2, if_neg (by omega)]
theorem zfl_c {m : zMm} {a lo hi : Int} {f g : Int → Int} (h : ∀ j, lo ≤ j → j < hi → f j = g j) : zfl m a lo hi f = zfl m a lo hi g := by
  funext b j
  unfold zfl
  by_cases h1 : b = a ∧ lo ≤ j ∧ j < hi
  · rw [if_pos h1, if_pos h1, h j h1.2.1 h1.2.2]
  · rw [if_neg h1, if_neg h1]
/-- a cell that may lie in an array of E's -/
def zEl (E : String) (s : State) (H : Heap) (x : Int) : Prop := x < 0 ∨ ∃ q : Nat, x = q ∧ va_Any E s H q
def zCa (C E : String) : Prop := C = E ∨ Cond.castable C E ∈ lw_tbl
section
variable {G : zG} {M : zM} {d pc : Nat} {V st : List Value} {S : zS} {mm : zMm} {k n : Nat} {Q : zQt} {X : zXt}
theorem zEl.obj {s : State} {H : Heap} {E : String} {x : Int} {ci : Nat} {r : vw_C} (hOK : zOK G) (hW : (gs G).WarmedH s.vm) (hR : zRep G S mm H) (hk : zk S x = ci + 1) (hr : zcl[ci]? = some r) (hc : zCa r.1 E) : zEl E s H x := by
  obtain ⟨q, rfl, hq1, hq2⟩ := hR.at (a := x) (by omega)
  obtain ⟨cell, h1, h2, h3⟩ := zobj hOK hW hR hk hr
  obtain ⟨kC, hkC, -⟩ := Vm.findClass_spec h3
  refine Or.inr ⟨q, rfl, cell, h1, h2, ⟨kC, hkC⟩, fun comp h => ?_⟩
  rcases hc with hc | hc
  · rw [hc] at h3
    exact vb_asgS comp _ h h3
  · exact vb_asgC (va_Nw.warmC hW (va_Nw.of (A := #[Value.ref (gb G)]) rfl (hOK.1 _ hc))) comp _ h h3
def zarE (κ : Nat) : String := if κ = 111 then "PanSlices$Plan" else if κ = 112 then "PanSlices$Kitchen" else if κ = 113 then "PanSlices$Cond" else if κ = 114 then "PanSlices$Cook" else "java/lang/String"
theorem zarEo : ∀ κ ∈ [111, 112, 113, 114, 115], zarr κ = .object (zarE κ) := by decide
theorem zT.aastE {a x y : Int} (hd : decode M.2.1 pc = .ok (.aastore, 1)) (hk : zk S a ∈ [111, 112, 113, 114, 115]) (h0 : 0 ≤ x) (h1 : x < zn S a)
    (hel : ∀ (s : State) (H : Heap), zOK G → (gs G).WarmedH s.vm → zLw G H → zRep G S mm H → zEl (zarE (zk S a)) s H y)
    (kk : zT G M d (pc + 1) V st S (zup mm a x y) k n Q X) : zT G M d pc V (zR y :: zI x :: zR a :: st) S mm k n Q X := by
  intro p e s m args below meth c H locs cells slots K N ls F hR hW hlo hc hs hV
  obtain ⟨q, rfl, hq1, hq2⟩ := hR.at (a := a) (by have := (by decide : ∀ κ ∈ [111, 112, 113, 114, 115], κ ≠ 0) _ hk; exact this)
  have hk1 : 110 ≤ zk S q := (by decide : ∀ κ ∈ [111, 112, 113, 114, 115], 110 ≤ κ) _ hk
  have hk2 : zk S q ∈ zks := (by decide : ∀ κ ∈ [111, 112, 113, 114, 115], κ ∈ zks) _ hk
  obtain ⟨g1, g2, g3⟩ := hR.2.2.2.1 q (by omega)
  have hOK := F.2.2.2.2.2.2.2.2.1.1
  have hWs := F.2.2.2.2.2.2.2.2.1.2
  have hA := zArr hOK hWs hk2
  have hE := hel s H hOK hWs hW hR
  have hwf : ∀ z, zwf (zk S q) x z := fun z => by
    unfold zwf
    rw [if_neg (by omega), if_neg (by omega), if_neg (by omega), if_neg (by omega), if_pos (by omega)]
    trivial
  have hv : zav (zk S q) y = zR y := by
    unfold zav
    rw [if_neg (by omega), if_pos hk1]
  have hlo2 : ∀ i : Nat, ∀ z ∈ locs ++ [(⟨q, i⟩ : Loc)], zfr G z.base := by
    intro i z hz
    rcases List.mem_append.mp hz with h | h
    · exact hlo z h
    · rw [List.mem_singleton.mp h]
      exact hq1
  rw [zR_n]
  rcases hE with hn | ⟨v, rfl, cellV, c1, c2, ⟨kC, hkC⟩, hasg⟩
  · rw [zR_neg hn]
    refine va_WaastN (C := zarE (zk S q)) F.1 F.2.1 g3 (by rw [← zarEo _ hk]; exact hA.1 _ _) (fun q => by cases q) (z_ix h0 h1 g2) rfl rfl hd fun H' e1 e2 e3 => ?_
    refine kk p e s m args below meth c H' _ cells slots K N ls F (hR.sto (by omega) h0 h1 (by rw [hv, zR_neg hn]) (hwf y) e1 e2 e3) ⟨by rw [e2]; exact hW.1, fun x hx => by rw [e3 x (Nat.ne_of_lt (Nat.lt_of_lt_of_le hx hq1))]; exact hW.2 x hx⟩ (hlo2 _) hc hs hV
  · have hR2 := hA.2
    rw [zarEo _ hk] at hR2
    obtain ⟨kA, comp, k1, k2, k3, -⟩ := hR2
    obtain ⟨kE, hkE, -⟩ := Vm.findClass_spec k3
    rw [zR_n]
    refine W.aast F.1 F.2.1 g3 (fun q h => by cases h) (fun h => by cases h) k1 k2 rfl hkE ⟨by rw [zi_lt0 ⟨by omega, by omega⟩]; omega, by rw [arrV_size, zi_cl h0 (by omega)]; omega⟩ c1 (fun q h => by rw [h] at c2; cases c2) hkC (hasg _ k3) rfl rfl hd fun H' e1 e2 e3 => ?_
    refine kk p e s m args below meth c H' _ cells slots K N ls F (hR.sto (by omega) h0 h1 (by rw [hv, zR_n]) (hwf _) e1 e2 e3) ⟨by rw [e2]; exact hW.1, fun x hx => by rw [e3 x (Nat.ne_of_lt (Nat.lt_of_lt_of_le hx hq1))]; exact hW.2 x hx⟩ (hlo2 _) hc hs hV
theorem zT.aast {a x y : Int} {ci : Nat} {r : vw_C} (hd : decode M.2.1 pc = .ok (.aastore, 1)) (hk : zk S a ∈ [111, 112, 113, 114, 115]) (h0 : 0 ≤ x) (h1 : x < zn S a) (hy : y < 0 ∨ (zk S y = ci + 1 ∧ zcl[ci]? = some r ∧ zCa r.1 (zarE (zk S a))))
    (kk : zT G M d (pc + 1) V st S (zup mm a x y) k n Q X) : zT G M d pc V (zR y :: zI x :: zR a :: st) S mm k n Q X :=
  zT.aastE hd hk h0 h1 (fun s H hOK hWs hW hR => by
    rcases hy with hy | ⟨hy, hr, hc⟩
    · exact Or.inl hy
    · exact zEl.obj hOK hWs hR hy hr hc) kk
theorem zacp {κ : Nat} {cA : ClassId} {n0 n1 sp dp n : Int} {f g : Int → Int} (hs : 0 ≤ sp ∧ 0 ≤ n ∧ 0 ≤ dp) (h : sp + n ≤ n0) (hb : sp < 2147483648 ∧ dp < 2147483648 ∧ n < 2147483648) :
    copied (arrV cA n0.toNat (fun j => zav κ (f j))) (arrV cA n1.toNat (fun j => zav κ (g j))) (Int32.ofInt sp) (Int32.ofInt dp) (Int32.ofInt n) = arrV cA n1.toNat (fun j => zav κ (if dp ≤ (j : Int) ∧ (j : Int) < dp + n then f (sp + (j - dp)) else g j)) := by
  have h2 := va_copied (zav κ) cA cA (n0 := n0.toNat) (n1 := n1.toNat) (sp := sp.toNat) (dp := dp.toNat) (n := n.toNat) (fun j : Nat => f j) (fun j : Nat => g j) (by omega)
  unfold copied
  rw [zi_cl hs.1 (by omega), zi_cl hs.2.1 (by omega), zi_cl hs.2.2 (by omega), h2]
  congr 1
  funext j
  unfold va_cpy
  by_cases q : dp ≤ (j : Int) ∧ (j : Int) < dp + n
  · rw [if_pos q, if_pos (by omega)]
    show zav κ (f ((sp.toNat + (j - dp.toNat) : Nat) : Int)) = _
    rw [show ((sp.toNat + (j - dp.toNat) : Nat) : Int) = sp + (j - dp) by omega]
  · rw [if_neg q, if_neg (by omega)]
theorem zT.acopy {src dst sp dp x : Int} {idx κ : Nat} (hd : decode M.2.1 pc = .ok (.invokestatic idx, 3)) (hl : Cond.methodLink M.1.cls idx arraycopyName ∈ lw_all) (hks : zk S src = κ) (hkd : zk S dst = κ)
    (hκ : κ = 101 ∨ (κ ∈ [111, 112, 113, 114, 115] ∧ ∀ i, sp ≤ i → i < sp + x → ∀ (s : State) (H : Heap), zOK G → (gs G).WarmedH s.vm → zLw G H → zRep G S mm H → zEl (zarE κ) s H (mm src i)))
    (h0 : 0 ≤ sp) (h1 : 0 ≤ dp) (h2 : 0 ≤ x) (h3 : sp + x ≤ zn S src) (h4 : dp + x ≤ zn S dst) (hdd : 1 ≤ d) (hcat : (st.map fun v => v.category).sum ≤ 8)
    (kk : zT G M d (pc + 3) V st S (zfl mm dst dp (dp + x) (fun j => mm src (sp + (j - dp)))) k n Q X) : zT G M d pc V (zI x :: zI dp :: zR dst :: zI sp :: zR src :: st) S mm k n Q X := by
  intro p e s m args below meth c H locs cells slots K N ls F hR hW hlo hc hs hV
  have hκ2 : κ ∈ zks := by
    rcases hκ with rfl | ⟨hκ, -⟩
    · decide
    · exact (by decide : ∀ κ ∈ [111, 112, 113, 114, 115], κ ∈ zks) _ hκ
  have hk1 : 100 < κ := (by decide : ∀ κ ∈ zks, 100 < κ) _ hκ2
  obtain ⟨q0, rfl, hq01, hq02⟩ := hR.at (a := src) (by omega)
  obtain ⟨q1, rfl, hq11, hq12⟩ := hR.at (a := dst) (by omega)
  obtain ⟨g01, g02, g03⟩ := hR.2.2.2.1 q0 (by omega)
  obtain ⟨g11, g12, g13⟩ := hR.2.2.2.1 q1 (by omega)
  have hOK := F.2.2.2.2.2.2.2.2.1.1
  have hWs := F.2.2.2.2.2.2.2.2.1.2
  have hts := F.2.2.2.2.2.2.2.1
  have hA := zArr hOK hWs hκ2
  rw [hks] at g03
  rw [hkd] at g13
  rw [zR_n, zR_n]
  have hI0 : zi sp ∧ zi dp ∧ zi x := ⟨⟨by omega, by omega⟩, ⟨by omega, by omega⟩, ⟨by omega, by omega⟩⟩
  have htI : ∀ z : Int, zi z → (Int32.ofInt z).toInt = z := fun z hz => zi_to hz
  intro T hT Xs
  obtain ⟨-, k0, e0, cm, e1⟩ := hA.1 (zn S q0).toNat (fun j => zav κ (mm q0 j))
  obtain ⟨-, k1, e2, cm1, e3⟩ := hA.1 (zn S q1).toNat (fun j => zav κ (mm q1 j))
  obtain ⟨vm', X', step⟩ := Xs.arraycopy F.1 (own := M.1.cls) (index := idx) F.2.2.2.2.2.1 (hts _ hl) (hts _ q864) (hts _ q863) (hts _ q128) (src := q0) (dst := q1) (srcPos := Int32.ofInt sp) (destPos := Int32.ofInt dp) (n := Int32.ofInt x) (by rw [hT]; exact g03) (by rw [hT]; exact g13)
    (fun _ h => by cases h) (fun _ h => by cases h) (fun h => by cases h) (fun h => by cases h) e0 e2 e1 e3 (by cases refKind (zarr κ) <;> simp) (by rw [zi_lt0 hI0.1]; omega) (by rw [zi_lt0 hI0.2.1]; omega) (by rw [zi_lt0 hI0.2.2]; omega)
    (by rw [htI _ hI0.1, htI _ hI0.2.2, arrV_size]; omega) (by rw [htI _ hI0.2.1, htI _ hI0.2.2, arrV_size]; omega)
    (fun vm₁ hal i hi => by
      rw [zi_cl h2 (by omega)] at hi
      rw [zi_cl h0 (by omega)]
      have e : (arrV (gA G κ) (zn S q0).toNat (fun j => zav κ (mm q0 j))).slots.getD (sp.toNat + i) .null = zav κ (mm q0 (sp + i)) := by
        rw [Array.getD_eq_getD_getElem?, arrV_read _ _ (by omega)]
        show zav κ (mm q0 ((sp.toNat + i : Nat) : Int)) = _
        rw [show ((sp.toNat + i : Nat) : Int) = sp + i by omega]
      rw [e]
      rcases hκ with rfl | ⟨hκ, hel⟩
      · exact ⟨rfl, trivial⟩
      · have hv : zav κ (mm q0 (sp + i)) = zR (mm q0 (sp + i)) := by
          unfold zav
          rw [if_neg (by have := (by decide : ∀ κ ∈ [111, 112, 113, 114, 115], 110 ≤ κ) _ hκ; omega), if_pos ((by decide : ∀ κ ∈ [111, 112, 113, 114, 115], 110 ≤ κ) _ hκ)]
        rw [hv]
        have hty := zarEo _ hκ
        rw [hty]
        rcases hel (sp + i) (by omega) (by omega) s H hOK hWs hW hR with hn | ⟨v, hv2, cellV, c1, c2, ⟨kC, hkC⟩, hasg⟩
        · rw [zR_neg hn]
          exact ⟨rfl, trivial⟩
        · rw [hv2, zR_n]
          have hR2 := hA.2
          rw [hty] at hR2
          obtain ⟨kA, comp, r1, r2, r3, -⟩ := hR2
          have r1' := e2.symm.trans r1
          cases r1'
          rw [hty] at e3
          cases e3.symm.trans r2
          obtain ⟨kE, hkE, -⟩ := Vm.findClass_spec r3
          obtain ⟨kC', hkC', -⟩ := hal.2.2 _ _ hkC
          obtain ⟨kE', hkE', -⟩ := hal.2.2 _ _ hkE
          refine ⟨rfl, cellV, (show T.heap[v]? = some cellV by rw [hT]; exact c1), (fun q h => by rw [h] at c2; cases c2), ⟨kC', hkC'⟩, ⟨kE', hkE'⟩, ?_⟩
          show vm₁.assignable _ _ = true
          rw [hal.assignable]
          exact hasg _ r3)
    (g := F0 m pc ls (zI x :: zI dp :: .ref q1 :: zI sp :: .ref q0 :: st)) rfl (by show ls.size = _; rw [hV.1]; exact F.2.2.1.symm) (rest := st) rfl (by rw [F.2.1]; exact hd) (show 1 ≤ d from hdd) (by
      show 2 * 0 + (st.map fun v => v.category).sum + (nativeFrameWords "java/lang/System" "arraycopy" 5 + 11) ≤ 64 * d
      have : nativeFrameWords "java/lang/System" "arraycopy" 5 ≤ 40 := by decide +kernel
      omega)
  rw [zacp ⟨h0, h2, h1⟩ h3 ⟨by omega, by omega, by omega⟩] at X' step
  have hheap : ∀ cz : Cell, ((T.setVm vm').setCell q1 cz).heap = H.setIfInBounds q1 cz := fun cz => by rw [← hT]; rfl
  have hsz : ∀ cz : Cell, (H.setIfInBounds q1 cz).size = H.size := fun cz => by simp
  have hoq : ∀ (cz : Cell) (q : Nat), q ≠ q1 → (H.setIfInBounds q1 cz)[q]? = H[q]? := fun cz q hq => by simp [Array.getElem?_setIfInBounds, Ne.symm hq]
  have hwf : ∀ i, zwf κ i (mm q0 i) := fun i => by
    have h := hR.2.2.2.2 q0 i (by omega)
    rw [hks] at h
    exact h
  have hwf1 : ∀ i, zwf κ i (mm q1 i) := fun i => by
    have h := hR.2.2.2.2 q1 i (by omega)
    rw [hkd] at h
    exact h
  have hwx : ∀ i j z, zwf κ i z → zwf κ j z := fun i j z h => by
    rcases hκ with rfl | ⟨hκ, -⟩
    · exact h
    · unfold zwf
      have := (by decide : ∀ κ ∈ [111, 112, 113, 114, 115], 110 ≤ κ) _ hκ
      rw [if_neg (by omega), if_neg (by omega), if_neg (by omega), if_neg (by omega), if_pos (by omega)]
      trivial
  obtain ⟨t, a1, b1⟩ := kk p e s m args below meth c _ _ cells slots K N ls F (hR.arr (H' := H.setIfInBounds q1 (arrV (gA G κ) (zn S q1).toNat (fun j => zav κ (if dp ≤ (j : Int) ∧ (j : Int) < dp + x then mm q0 (sp + (j - dp)) else mm q1 j)))) (q := q1) (by omega) (m' := zfl mm q1 dp (dp + x) (fun j => mm q0 (sp + (j - dp)))) (fun b hb j => zfl_ne (fun z => hb z.1))
    (fun i => by
      rw [hkd]
      by_cases hi : dp ≤ i ∧ i < dp + x
      · rw [zfl_at hi.1 hi.2]
        exact hwx _ _ _ (hwf _)
      · rw [zfl_ne (fun z => hi z.2)]
        exact hwf1 i) (hsz _) (hoq _) (by
      rw [hkd, Array.getElem?_setIfInBounds, if_pos rfl, if_pos hq12]
      congr 2
      funext j
      unfold zfl
      by_cases hj : dp ≤ (j : Int) ∧ (j : Int) < dp + x
      · rw [if_pos hj, if_pos ⟨rfl, hj⟩]
      · rw [if_neg hj, if_neg (fun z => hj z.2)]))
    ⟨by rw [hsz]; exact hW.1, fun q hq => by rw [hoq _ q (Nat.ne_of_lt (Nat.lt_of_lt_of_le hq hq11))]; exact hW.2 q hq⟩ (fun q hq => by
      rcases List.mem_append.mp hq with h | h
      · exact hlo q h
      · obtain ⟨z, -, hz⟩ := List.mem_map.mp h
        rw [← hz]
        exact hq11) hc hs hV _ (hheap _) X'
  exact ⟨t, step t a1, b1⟩
end
section
variable {G : zG} {M : zM} {d pc : Nat} {V st : List Value} {S : zS} {mm : zMm} {k n : Nat} {Q : zQt} {X : zXt}
theorem zT.meq {m' : zMm} (e : mm = m') (h : zT G M d pc V st S m' k n Q X) : zT G M d pc V st S mm k n Q X := by
  rw [e]
  exact h
end
