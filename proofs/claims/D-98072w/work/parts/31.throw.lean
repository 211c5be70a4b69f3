/-! THROWING AND CATCHING (written by gen/mk_throw.py) -/
/-- a word that can be carried: of the run's list, or of the tables' castable and declares -/
def zWo (w : Cond) : Prop := w ∈ lw_all ∨ (∃ C T, w = Cond.castable C T ∧ w ∈ lw_tbl) ∨ ∃ y, w = Cond.declares y ∧ w ∈ lw_tbl
theorem zWo.use {G : zG} {s : State} {args : Array Value} {w : Cond} (h : zWo w) (hts : ∀ w ∈ lw_all, w.before args s = true) (hOK : zOK G) (hW : (gs G).WarmedH s.vm) : w.before args s = true := by
  rcases h with h | ⟨C, T, rfl, h⟩ | ⟨y, rfl, h⟩
  · exact hts _ h
  · exact va_Nw.use rfl (va_Nw.warmC hW (va_Nw.of (A := #[Value.ref (gb G)]) rfl (hOK.1 _ h)))
  · exact va_Nw.use rfl (va_Nw.warmD hW (va_Nw.of (A := #[Value.ref (gb G)]) rfl (hOK.1 _ h)))
theorem zWoC {w : Cond} {B : List Cond} (h : zWo w) (t : ∀ w ∈ B, zWo w) : ∀ w' ∈ w :: B, zWo w' := fun w' hw => (List.mem_cons.mp hw).elim (fun e => by rw [e]; exact h) (t w')
theorem zWoN : ∀ w ∈ ([] : List Cond), zWo w := fun w h => nomatch h
theorem zNSE : ∀ w ∈ vx_at0 RX1 203 "java/util/NoSuchElementException" ["java/lang/RuntimeException", "java/lang/Exception"], zWo w :=
  zWoC (Or.inl q108) (zWoC (Or.inl q165) (zWoC (Or.inl q174) (zWoC (Or.inl q177) (zWoC (Or.inl q180) (zWoC (Or.inl q182) (zWoC (Or.inl q166) (zWoC (Or.inl q167) (zWoC (Or.inl q143) (zWoC (Or.inl q144) (zWoC (Or.inl q168) (zWoC (Or.inl q173) (zWoC (Or.inl q178) (zWoC (Or.inl q198) (zWoC (Or.inl q155) (zWoC (Or.inl q199) (zWoC (Or.inl q157) (zWoC (Or.inl q200) (zWoC (Or.inl q159) (zWoC (Or.inl q169) (zWoC (Or.inl q171) (zWoC (Or.inl q161) (zWoC (Or.inl q1362) (zWoC (Or.inl q1363) (zWoC (Or.inl q1364) (zWoC (Or.inl q1365) (zWoC (Or.inr (Or.inr ⟨_, rfl, q1353⟩)) (zWoC (Or.inl q1365) (zWoC (Or.inl q1366) (zWoC (Or.inl q1367) (zWoC (Or.inl q1368) (zWoC (Or.inr (Or.inr ⟨_, rfl, q148⟩)) (zWoC (Or.inl q1368) (zWoC (Or.inl q1369) (zWoC (Or.inl q1370) (zWoC (Or.inl q166) (zWoC (Or.inr (Or.inr ⟨_, rfl, q150⟩)) (zWoC (Or.inl q1361) (zWoC (Or.inl q1351) (zWoC (Or.inr (Or.inl ⟨_, _, rfl, q1352⟩)) (zWoC (Or.inl q1355) (zWoC (Or.inl q176) (zWoC (Or.inl q1356) (zWoC (Or.inl q1357) (zWoC (Or.inl q1358) (zWoC (Or.inl q1359) (zWoC (Or.inl q164) (zWoC (Or.inl q163) (zWoC (Or.inl q1360) (zWoN)))))))))))))))))))))))))))))))))))))))))))))))))
theorem zNSEg : ∀ w ∈ Cond.classLink RX1 201 "java/util/NoSuchElementException" :: Cond.initialized "java/util/NoSuchElementException" :: vx_at0 RX1 203 "java/util/NoSuchElementException" ["java/lang/RuntimeException", "java/lang/Exception"], vx_ot w = true := by decide +kernel
/-- the world with the next cell's address y -/
def zsx (S : zS) (y : Int) : zS := (S.1, S.2.1, S.2.2.1, y)
theorem zsx.gr {S : zS} {y : Int} (h : zx S ≤ y) : zGr S (zsx S y) := ⟨h, fun _ _ => ⟨rfl, rfl, fun _ => rfl⟩, fun _ _ => rfl⟩
section
variable {G : zG} {M : zM} {d pc : Nat} {V st : List Value} {S : zS} {mm : zMm} {k n : Nat} {Q : zQt} {X : zXt}
theorem zRep.sx {H H' : Heap} (h : zRep G S mm H) (h1 : H.size ≤ H'.size) (h2 : ∀ q : Nat, q < H.size → H'[q]? = H[q]?) : zRep G (zsx S (H'.size : Nat)) mm H' := by
  obtain ⟨a1, a2, a3, a4, a5⟩ := h
  refine ⟨rfl, fun a ha => ?_, fun q ci r hk hr => ?_, fun q hk => ?_, a5⟩
  · have := a2 a ha
    refine ⟨this.1, ?_⟩
    show a < ((H'.size : Nat) : Int)
    omega
  · have hb := a2 q (by show zk S q ≠ 0; have : zk S q = ci + 1 := hk; omega)
    exact (a3 q ci r hk hr).kept (h2 q (by omega))
  · have hk' : 100 < zk S q := hk
    have hb := a2 q (by omega)
    obtain ⟨b1, b2, b3⟩ := a4 q hk
    exact ⟨b1, b2, by rw [h2 q (by omega)]; exact b3⟩
/-- throw new NoSuchElementException() in the class -/
theorem zT.throw0 (hM : M.1.cls = RX1) (hh : M.2.2.2.2 = []) (hst : st = []) (d0 : decode M.2.1 pc = .ok (.new 201, 3)) (d3 : decode M.2.1 (pc + 3) = .ok (.dup, 1)) (d4 : decode M.2.1 (pc + 4) = .ok (.invokespecial 203, 3)) (d7 : decode M.2.1 (pc + 7) = .ok (.athrow, 1))
    (hd : 8 ≤ d) (hk : 1 ≤ k) (hn : 6 ≤ n) (h : ∀ (q y : Int), zx S ≤ y → X "java/util/NoSuchElementException" q (zsx S y) mm) : zT G M d pc V st S mm k n Q X := by
  intro p e s m args below meth c H locs cells slots K N ls F hR hW hlo hc hs hV
  subst hst
  have hts := F.2.2.2.2.2.2.2.1
  have hOK := F.2.2.2.2.2.2.2.2.1.1
  have hWs := F.2.2.2.2.2.2.2.2.1.2
  have hL := F.2.2.2.2.2.2.2.2.2.2
  have hown := F.2.2.2.2.2.1
  rw [hM] at hown
  obtain ⟨o1, o2, o3, o4, o5, o6, o7, o8, o9⟩ := hOK
  have hOK := F.2.2.2.2.2.2.2.2.1.1
  have kept : ∀ a : Nat, a < (gs G).heap.size → ¬ zfr G a → s.heap[a]? = (gs G).heap[a]? := fun a ha hb => hL.2 a ha
  intro T hT X9
  obtain ⟨f1, f2⟩ := vx_frame X9.same
  have hT' : (T.setVm s.vm).heap = H := hT
  rw [hT] at f1
  have hS : va_S (zfr G) s.heap H locs := ⟨f1, fun q hq hA => by rw [← hT]; exact f2 q hq (fun z hz e => hA (by rw [← e]; exact hlo z hz)), hlo⟩
  refine vx_throw0 (A := zfr G) (names := ["java/lang/RuntimeException", "java/lang/Exception"]) F.1 F.2.1 o6 hown (by decide +kernel) (by decide +kernel) (hts _ q1350) (hts _ q127) (fun w hw => (zNSE w hw).use hts hOK hWs) zNSEg
    (vx_Zq.moved hWs.alike (o7.kept kept)) (vx_Zq.moved hWs.alike (o8.kept kept)) hS (hV.1.trans F.2.2.1.symm) d0 d3 d4 d7 (fun x hx => ?_) (show 2 + 3 < d by omega) ?_ (show cells + 1 ≤ K by omega) (show slots + 6 ≤ N by omega) F.2.2.2.2.1 (fun q9 t a1 a2 a3 => ?_) hlo (by omega) (by omega) T hT X9
  · rw [F.2.2.2.2.2.2.2.2.2.1, hh] at hx
    exact absurd hx (List.not_mem_nil)
  · show 0 + (13 * (2 + 1) + 42) ≤ 64 * d
    omega
  · refine ⟨zsx S (t.heap.size : Nat), mm, h _ _ (by rw [hR.1]; omega), hR.sx a2 a3, by have := hW.1; omega, fun q hq => ?_⟩
    rw [a3 q (Nat.lt_of_lt_of_le hq hW.1)]
    exact hW.2 q hq
/-- a thrown cell leaves the method -/
theorem zTX.out {E : String} {q : Int} (hh : M.2.2.2.2 = []) (h : X E q S mm) : zTX G M d pc V E q S mm k n Q X := by
  intro p e s m args below meth c H locs cells slots K N ls a ce rest F hR hW hlo hc hs hV hq hce hv hcl
  subst hq
  refine vx_out (fun x hx => ?_) F.2.2.2.2.1 hce hv hcl (fun t ht _ => ⟨S, mm, h, by rw [ht]; exact hR, by rw [ht]; exact hW⟩) hlo (by omega) (by omega)
  rw [F.2.2.2.2.2.2.2.2.2.1, hh] at hx
  exact absurd hx (List.not_mem_nil)
/-- a thrown cell is caught by the method's one handler -/
theorem zTX.catch {E : String} {q : Int} {s0 e0 h0 ct : Nat} (hh : M.2.2.2.2 = [(s0, e0, h0, ct)]) (h1 : s0 ≤ pc) (h2 : pc < e0) (h3 : ct ≠ 0) (hl : Cond.classLink M.1.cls ct E ∈ lw_all) (hca : Cond.castable E E ∈ lw_tbl) (kk : zT G M d h0 V [zR q] S mm k n Q X) : zTX G M d pc V E q S mm k n Q X := by
  intro p e s m args below meth c H locs cells slots K N ls a ce rest F hR hW hlo hc hs hV hq hce hv hcl
  subst hq
  have hts := F.2.2.2.2.2.2.2.1
  have hk := kk p e s m args below meth c H locs cells slots K N ls F hR hW hlo hc hs hV
  rw [zR_n] at hk
  exact vx_catch (x := ⟨s0, e0, h0, ct⟩) F.2.2.2.2.2.1 [] [] (by rw [F.2.2.2.2.2.2.2.2.2.1, hh]; rfl) (fun z hz => nomatch hz) (by unfold covers; simp; omega) h3 (hts _ hl) ((show zWo _ from Or.inr (Or.inl ⟨_, _, rfl, hca⟩)).use hts F.2.2.2.2.2.2.2.2.1.1 F.2.2.2.2.2.2.2.2.1.2) hce hv hcl hk
/-- throwing a cell that is there -/
theorem zT.athrow {q : Int} {ci : Nat} {r : vw_C} (hd : decode M.2.1 pc = .ok (.athrow, 1)) (hk : zk S q = ci + 1) (hr : zcl[ci]? = some r) (kk : zTX G M d pc V r.1 q S mm k n Q X) : zT G M d pc V (zR q :: st) S mm k n Q X := by
  intro p e s m args below meth c H locs cells slots K N ls F hR hW hlo hc hs hV
  obtain ⟨a, rfl, hq1, hq2⟩ := hR.at (a := q) (by omega)
  obtain ⟨cell, c1, c2, c3, -⟩ := hR.2.2.1 a ci r hk hr
  have hcl : s.vm.findClass r.1 = some cell.cls := by rw [c2]; exact ((zKs F.2.2.2.2.2.2.2.2.1.1 F.2.2.2.2.2.2.2.2.1.2).1 ci r hr).2.1
  rw [zR_n]
  exact vx_athrow F.1 F.2.1 hd (kk p e s m args below meth c H locs cells slots K N ls a cell st F hR hW hlo hc hs hV rfl c1 c3 hcl)
end
