/-! ONE RULE AN INSTRUCTION (written by gen/mk_rules.py) -/
section
variable {G : zG} {M : zM} {d pc : Nat} {V st : List Value} {S : zS} {mm : zMm} {k n : Nat} {Q : zQt} {X : zXt}
theorem zT.iconst {x : Int} (hd : decode M.2.1 pc = .ok (.iconst x, 1)) (kk : zT G M d (pc + 1) V (zI x :: st) S mm k n Q X) : zT G M d pc V (st) S mm k n Q X := by
  intro p e s m args below meth c H locs cells slots K N ls F hR hW hl hc hs hV
  exact lv_iconst F.1 F.2.1 hd rfl (kk p e s m args below meth c H locs cells slots K N ls F hR hW hl hc hs hV)
theorem zT.bipush {x : Int} (hd : decode M.2.1 pc = .ok (.bipush x, 2)) (kk : zT G M d (pc + 2) V (zI x :: st) S mm k n Q X) (hx : (Int8.ofInt x).toInt32 = Int32.ofInt x := by decide +kernel) : zT G M d pc V (st) S mm k n Q X := by
  intro p e s m args below meth c H locs cells slots K N ls F hR hW hl hc hs hV
  exact lv_bipush F.1 F.2.1 hd hx (kk p e s m args below meth c H locs cells slots K N ls F hR hW hl hc hs hV)
theorem zT.sipush {x : Int} (hd : decode M.2.1 pc = .ok (.sipush x, 3)) (kk : zT G M d (pc + 3) V (zI x :: st) S mm k n Q X) (hx : (Int16.ofInt x).toInt32 = Int32.ofInt x := by decide +kernel) : zT G M d pc V (st) S mm k n Q X := by
  intro p e s m args below meth c H locs cells slots K N ls F hR hW hl hc hs hV
  exact lv_sipush F.1 F.2.1 hd hx (kk p e s m args below meth c H locs cells slots K N ls F hR hW hl hc hs hV)
theorem zT.lconst {x : Fin 2} (hd : decode M.2.1 pc = .ok (.lconst x, 1)) (kk : zT G M d (pc + 1) V (zJ (x.val : Nat) :: st) S mm k n Q X) : zT G M d pc V (st) S mm k n Q X := by
  intro p e s m args below meth c H locs cells slots K N ls F hR hW hl hc hs hV
  exact lv_lconst F.1 F.2.1 hd (zJ_nat _).symm (kk p e s m args below meth c H locs cells slots K N ls F hR hW hl hc hs hV)
theorem zT.ldc {idx : Nat} {v : Int32} (x : Int) (hq : Jvm.Cond.constant M.1.cls idx v ∈ lw_all) (hv : Int32.ofInt x = v) (hd : decode M.2.1 pc = .ok (.ldc idx, 2)) (kk : zT G M d (pc + 2) V (zI x :: st) S mm k n Q X) : zT G M d pc V (st) S mm k n Q X := by
  intro p e s m args below meth c H locs cells slots K N ls F hR hW hl hc hs hV
  subst hv
  exact lv_ldc F.1 F.2.1 F.2.2.2.2.2.1 (F.2.2.2.2.2.2.2.1 _ hq) hd (kk p e s m args below meth c H locs cells slots K N ls F hR hW hl hc hs hV)
theorem zT.ldcw {idx : Nat} {v : Int32} (x : Int) (hq : Jvm.Cond.constant M.1.cls idx v ∈ lw_all) (hv : Int32.ofInt x = v) (hd : decode M.2.1 pc = .ok (.ldc_w idx, 3)) (kk : zT G M d (pc + 3) V (zI x :: st) S mm k n Q X) : zT G M d pc V (st) S mm k n Q X := by
  intro p e s m args below meth c H locs cells slots K N ls F hR hW hl hc hs hV
  subst hv
  exact lv_ldcw F.1 F.2.1 F.2.2.2.2.2.1 (F.2.2.2.2.2.2.2.1 _ hq) hd (kk p e s m args below meth c H locs cells slots K N ls F hR hW hl hc hs hV)
theorem zT.ldc2 {idx : Nat} {v : Int64} (x : Int) (hq : Jvm.Cond.constantLong M.1.cls idx v ∈ lw_all) (hv : Int64.ofInt x = v) (hd : decode M.2.1 pc = .ok (.ldc2_w idx, 3)) (kk : zT G M d (pc + 3) V (zJ x :: st) S mm k n Q X) : zT G M d pc V (st) S mm k n Q X := by
  intro p e s m args below meth c H locs cells slots K N ls F hR hW hl hc hs hV
  subst hv
  exact lv_ldc2 F.1 F.2.1 F.2.2.2.2.2.1 (F.2.2.2.2.2.2.2.1 _ hq) hd (kk p e s m args below meth c H locs cells slots K N ls F hR hW hl hc hs hV)
theorem zT.anull (hd : decode M.2.1 pc = .ok (.aconst_null, 1)) (kk : zT G M d (pc + 1) V (zR (-1) :: st) S mm k n Q X) : zT G M d pc V (st) S mm k n Q X := by
  intro p e s m args below meth c H locs cells slots K N ls F hR hW hl hc hs hV
  exact lv_null F.1 F.2.1 hd (kk p e s m args below meth c H locs cells slots K N ls F hR hW hl hc hs hV)
theorem zT.iload_n {x : Int} {f : Fin 4} (i : Nat) (hd : decode M.2.1 pc = .ok (.iload_n f, 1)) (hi : (f : Nat) = i) (hv : V[i]? = some (zI x)) (kk : zT G M d (pc + 1) V (zI x :: st) S mm k n Q X) : zT G M d pc V (st) S mm k n Q X := by
  intro p e s m args below meth c H locs cells slots K N ls F hR hW hl hc hs hV
  exact lv_iload_n F.1 F.2.1 hd hi (hV.2.2 i _ hv zUI) (kk p e s m args below meth c H locs cells slots K N ls F hR hW hl hc hs hV)
theorem zT.iload {x : Int} (i : Nat) (hd : decode M.2.1 pc = .ok (.iload i, 2)) (hv : V[i]? = some (zI x)) (kk : zT G M d (pc + 2) V (zI x :: st) S mm k n Q X) : zT G M d pc V (st) S mm k n Q X := by
  intro p e s m args below meth c H locs cells slots K N ls F hR hW hl hc hs hV
  exact lv_iload F.1 F.2.1 hd (hV.2.2 i _ hv zUI) (kk p e s m args below meth c H locs cells slots K N ls F hR hW hl hc hs hV)
theorem zT.lload_n {x : Int} {f : Fin 4} (i : Nat) (hd : decode M.2.1 pc = .ok (.lload_n f, 1)) (hi : (f : Nat) = i) (hv : V[i]? = some (zJ x)) (kk : zT G M d (pc + 1) V (zJ x :: st) S mm k n Q X) : zT G M d pc V (st) S mm k n Q X := by
  intro p e s m args below meth c H locs cells slots K N ls F hR hW hl hc hs hV
  exact lv_lload_n F.1 F.2.1 hd hi (hV.2.2 i _ hv zUJ) (kk p e s m args below meth c H locs cells slots K N ls F hR hW hl hc hs hV)
theorem zT.lload {x : Int} (i : Nat) (hd : decode M.2.1 pc = .ok (.lload i, 2)) (hv : V[i]? = some (zJ x)) (kk : zT G M d (pc + 2) V (zJ x :: st) S mm k n Q X) : zT G M d pc V (st) S mm k n Q X := by
  intro p e s m args below meth c H locs cells slots K N ls F hR hW hl hc hs hV
  exact lv_lload F.1 F.2.1 hd (hV.2.2 i _ hv zUJ) (kk p e s m args below meth c H locs cells slots K N ls F hR hW hl hc hs hV)
theorem zT.aload_n {x : Int} {f : Fin 4} (i : Nat) (hd : decode M.2.1 pc = .ok (.aload_n f, 1)) (hi : (f : Nat) = i) (hv : V[i]? = some (zR x)) (kk : zT G M d (pc + 1) V (zR x :: st) S mm k n Q X) : zT G M d pc V (st) S mm k n Q X := by
  intro p e s m args below meth c H locs cells slots K N ls F hR hW hl hc hs hV
  have h1 := hV.2.2 i _ hv zUR
  have h2 := kk p e s m args below meth c H locs cells slots K N ls F hR hW hl hc hs hV
  rcases Int.lt_or_le x 0 with q | q
  · rw [zR_neg q] at h1 h2
    exact lv_aload_nN F.1 F.2.1 hd hi h1 h2
  · rw [zR_pos q] at h1 h2
    exact lv_aload_n F.1 F.2.1 hd hi h1 h2
theorem zT.aload {x : Int} (i : Nat) (hd : decode M.2.1 pc = .ok (.aload i, 2)) (hv : V[i]? = some (zR x)) (kk : zT G M d (pc + 2) V (zR x :: st) S mm k n Q X) : zT G M d pc V (st) S mm k n Q X := by
  intro p e s m args below meth c H locs cells slots K N ls F hR hW hl hc hs hV
  have h1 := hV.2.2 i _ hv zUR
  have h2 := kk p e s m args below meth c H locs cells slots K N ls F hR hW hl hc hs hV
  rcases Int.lt_or_le x 0 with q | q
  · rw [zR_neg q] at h1 h2
    exact lv_aloadN F.1 F.2.1 hd h1 h2
  · rw [zR_pos q] at h1 h2
    exact lv_aload F.1 F.2.1 hd h1 h2
theorem zT.istore_n {x : Int} {f : Fin 4} (i : Nat) (hd : decode M.2.1 pc = .ok (.istore_n f, 1)) (hi : (f : Nat) = i) (hn : i < M.2.2.1) (hp : zpre V i) (kk : zT G M d (pc + 1) (V.set i (zI x)) (st) S mm k n Q X) : zT G M d pc V (zI x :: st) S mm k n Q X := by
  intro p e s m args below meth c H locs cells slots K N ls F hR hW hl hc hs hV
  exact lv_istore_n F.1 F.2.1 hd hi hV.has hn rfl (fun ls' h => kk p e s m args below meth c H locs cells slots K N ls' F hR hW hl hc hs (zL.set1 hp h))
theorem zT.istore {x : Int} (i : Nat) (hd : decode M.2.1 pc = .ok (.istore i, 2)) (hn : i < M.2.2.1) (hp : zpre V i) (kk : zT G M d (pc + 2) (V.set i (zI x)) (st) S mm k n Q X) : zT G M d pc V (zI x :: st) S mm k n Q X := by
  intro p e s m args below meth c H locs cells slots K N ls F hR hW hl hc hs hV
  exact lv_istore F.1 F.2.1 hd hV.has hn rfl (fun ls' h => kk p e s m args below meth c H locs cells slots K N ls' F hR hW hl hc hs (zL.set1 hp h))
theorem zT.lstore_n {x : Int} {f : Fin 4} (i : Nat) (hd : decode M.2.1 pc = .ok (.lstore_n f, 1)) (hi : (f : Nat) = i) (hn : i + 1 < M.2.2.1) (hp : zpre V i) (kk : zT G M d (pc + 1) ((V.set i (zJ x)).set (i + 1) zU) (st) S mm k n Q X) : zT G M d pc V (zJ x :: st) S mm k n Q X := by
  intro p e s m args below meth c H locs cells slots K N ls F hR hW hl hc hs hV
  exact lv_lstore_n F.1 F.2.1 hd hi hV.has hn rfl (fun ls' h => kk p e s m args below meth c H locs cells slots K N ls' F hR hW hl hc hs (zL.set2 hp h))
theorem zT.lstore {x : Int} (i : Nat) (hd : decode M.2.1 pc = .ok (.lstore i, 2)) (hn : i + 1 < M.2.2.1) (hp : zpre V i) (kk : zT G M d (pc + 2) ((V.set i (zJ x)).set (i + 1) zU) (st) S mm k n Q X) : zT G M d pc V (zJ x :: st) S mm k n Q X := by
  intro p e s m args below meth c H locs cells slots K N ls F hR hW hl hc hs hV
  exact lv_lstore F.1 F.2.1 hd hV.has hn rfl (fun ls' h => kk p e s m args below meth c H locs cells slots K N ls' F hR hW hl hc hs (zL.set2 hp h))
theorem zT.astore_n {x : Int} {f : Fin 4} (i : Nat) (hd : decode M.2.1 pc = .ok (.astore_n f, 1)) (hi : (f : Nat) = i) (hn : i < M.2.2.1) (hp : zpre V i) (kk : zT G M d (pc + 1) (V.set i (zR x)) (st) S mm k n Q X) : zT G M d pc V (zR x :: st) S mm k n Q X := by
  intro p e s m args below meth c H locs cells slots K N ls F hR hW hl hc hs hV
  rcases Int.lt_or_le x 0 with q | q
  · have ev := zR_neg q
    rw [ev]
    rw [ev] at kk
    exact lv_astore_nN F.1 F.2.1 hd hi hV.has hn rfl (fun ls' h => kk p e s m args below meth c H locs cells slots K N ls' F hR hW hl hc hs (zL.set1 hp h))
  · have ev := zR_pos q
    rw [ev]
    rw [ev] at kk
    exact lv_astore_n F.1 F.2.1 hd hi hV.has hn rfl (fun ls' h => kk p e s m args below meth c H locs cells slots K N ls' F hR hW hl hc hs (zL.set1 hp h))
theorem zT.astore {x : Int} (i : Nat) (hd : decode M.2.1 pc = .ok (.astore i, 2)) (hn : i < M.2.2.1) (hp : zpre V i) (kk : zT G M d (pc + 2) (V.set i (zR x)) (st) S mm k n Q X) : zT G M d pc V (zR x :: st) S mm k n Q X := by
  intro p e s m args below meth c H locs cells slots K N ls F hR hW hl hc hs hV
  rcases Int.lt_or_le x 0 with q | q
  · have ev := zR_neg q
    rw [ev]
    rw [ev] at kk
    exact lv_astoreN F.1 F.2.1 hd hV.has hn rfl (fun ls' h => kk p e s m args below meth c H locs cells slots K N ls' F hR hW hl hc hs (zL.set1 hp h))
  · have ev := zR_pos q
    rw [ev]
    rw [ev] at kk
    exact lv_astore F.1 F.2.1 hd hV.has hn rfl (fun ls' h => kk p e s m args below meth c H locs cells slots K N ls' F hR hW hl hc hs (zL.set1 hp h))
theorem zT.iinc {x y : Int} (i : Nat) (hd : decode M.2.1 pc = .ok (.iinc i y, 3)) (hv : V[i]? = some (zI x)) (hn : i < M.2.2.1) (hp : zpre V i) (kk : zT G M d (pc + 3) (V.set i (zI (x + y))) (st) S mm k n Q X) : zT G M d pc V (st) S mm k n Q X := by
  intro p e s m args below meth c H locs cells slots K N ls F hR hW hl hc hs hV
  have hm : (i, zI x) ∈ zen V := zen_mem.mpr ⟨hv, zUI⟩
  obtain ⟨j, hj⟩ := List.getElem?_of_mem hm
  exact lv_iinc F.1 F.2.1 hd hV.has hj (zi_add x y) hn rfl (fun ls' h => kk p e s m args below meth c H locs cells slots K N ls' F hR hW hl hc hs (zL.set1 hp h))
theorem zT.iadd {x y : Int} (hd : decode M.2.1 pc = .ok (.iadd, 1)) (kk : zT G M d (pc + 1) V (zI (x + y) :: st) S mm k n Q X) : zT G M d pc V (zI y :: zI x :: st) S mm k n Q X := by
  intro p e s m args below meth c H locs cells slots K N ls F hR hW hl hc hs hV
  have h := kk p e s m args below meth c H locs cells slots K N ls F hR hW hl hc hs hV
  unfold zI at h ⊢
  rw [← zi_add] at h
  exact lv_iadd F.1 F.2.1 hd h
theorem zT.isub {x y : Int} (hd : decode M.2.1 pc = .ok (.isub, 1)) (kk : zT G M d (pc + 1) V (zI (x - y) :: st) S mm k n Q X) : zT G M d pc V (zI y :: zI x :: st) S mm k n Q X := by
  intro p e s m args below meth c H locs cells slots K N ls F hR hW hl hc hs hV
  have h := kk p e s m args below meth c H locs cells slots K N ls F hR hW hl hc hs hV
  unfold zI at h ⊢
  rw [← zi_sub] at h
  exact lv_isub F.1 F.2.1 hd h
theorem zT.imul {x y : Int} (hd : decode M.2.1 pc = .ok (.imul, 1)) (kk : zT G M d (pc + 1) V (zI (x * y) :: st) S mm k n Q X) : zT G M d pc V (zI y :: zI x :: st) S mm k n Q X := by
  intro p e s m args below meth c H locs cells slots K N ls F hR hW hl hc hs hV
  have h := kk p e s m args below meth c H locs cells slots K N ls F hR hW hl hc hs hV
  unfold zI at h ⊢
  rw [← zi_mul] at h
  exact lv_imul F.1 F.2.1 hd h
theorem zT.iand {x y : Int} (hd : decode M.2.1 pc = .ok (.iand, 1)) (kk : zT G M d (pc + 1) V (zI (zand x y) :: st) S mm k n Q X) : zT G M d pc V (zI y :: zI x :: st) S mm k n Q X := by
  intro p e s m args below meth c H locs cells slots K N ls F hR hW hl hc hs hV
  have h := kk p e s m args below meth c H locs cells slots K N ls F hR hW hl hc hs hV
  unfold zI at h ⊢
  rw [← zand_v] at h
  exact lv_iand F.1 F.2.1 hd h
theorem zT.ior {x y : Int} (hd : decode M.2.1 pc = .ok (.ior, 1)) (kk : zT G M d (pc + 1) V (zI (zor x y) :: st) S mm k n Q X) : zT G M d pc V (zI y :: zI x :: st) S mm k n Q X := by
  intro p e s m args below meth c H locs cells slots K N ls F hR hW hl hc hs hV
  have h := kk p e s m args below meth c H locs cells slots K N ls F hR hW hl hc hs hV
  unfold zI at h ⊢
  rw [← zor_v] at h
  exact lv_ior F.1 F.2.1 hd h
theorem zT.ixor {x y : Int} (hd : decode M.2.1 pc = .ok (.ixor, 1)) (kk : zT G M d (pc + 1) V (zI (zxor x y) :: st) S mm k n Q X) : zT G M d pc V (zI y :: zI x :: st) S mm k n Q X := by
  intro p e s m args below meth c H locs cells slots K N ls F hR hW hl hc hs hV
  have h := kk p e s m args below meth c H locs cells slots K N ls F hR hW hl hc hs hV
  unfold zI at h ⊢
  rw [← zxor_v] at h
  exact lv_ixor F.1 F.2.1 hd h
theorem zT.ladd {x y : Int} (hd : decode M.2.1 pc = .ok (.ladd, 1)) (kk : zT G M d (pc + 1) V (zJ (x + y) :: st) S mm k n Q X) : zT G M d pc V (zJ y :: zJ x :: st) S mm k n Q X := by
  intro p e s m args below meth c H locs cells slots K N ls F hR hW hl hc hs hV
  have h := kk p e s m args below meth c H locs cells slots K N ls F hR hW hl hc hs hV
  unfold zJ at h ⊢
  rw [← zj_add] at h
  exact lv_ladd F.1 F.2.1 hd h
theorem zT.lsub {x y : Int} (hd : decode M.2.1 pc = .ok (.lsub, 1)) (kk : zT G M d (pc + 1) V (zJ (x - y) :: st) S mm k n Q X) : zT G M d pc V (zJ y :: zJ x :: st) S mm k n Q X := by
  intro p e s m args below meth c H locs cells slots K N ls F hR hW hl hc hs hV
  have h := kk p e s m args below meth c H locs cells slots K N ls F hR hW hl hc hs hV
  unfold zJ at h ⊢
  rw [← zj_sub] at h
  exact lv_lsub F.1 F.2.1 hd h
theorem zT.lmul {x y : Int} (hd : decode M.2.1 pc = .ok (.lmul, 1)) (kk : zT G M d (pc + 1) V (zJ (x * y) :: st) S mm k n Q X) : zT G M d pc V (zJ y :: zJ x :: st) S mm k n Q X := by
  intro p e s m args below meth c H locs cells slots K N ls F hR hW hl hc hs hV
  have h := kk p e s m args below meth c H locs cells slots K N ls F hR hW hl hc hs hV
  unfold zJ at h ⊢
  rw [← zj_mul] at h
  exact lv_lmul F.1 F.2.1 hd h
theorem zT.land {x y : Int} (hd : decode M.2.1 pc = .ok (.land, 1)) (kk : zT G M d (pc + 1) V (zJ (zjand x y) :: st) S mm k n Q X) : zT G M d pc V (zJ y :: zJ x :: st) S mm k n Q X := by
  intro p e s m args below meth c H locs cells slots K N ls F hR hW hl hc hs hV
  have h := kk p e s m args below meth c H locs cells slots K N ls F hR hW hl hc hs hV
  unfold zJ at h ⊢
  rw [← zjand_v] at h
  exact lv_land F.1 F.2.1 hd h
theorem zT.lor {x y : Int} (hd : decode M.2.1 pc = .ok (.lor, 1)) (kk : zT G M d (pc + 1) V (zJ (zjor x y) :: st) S mm k n Q X) : zT G M d pc V (zJ y :: zJ x :: st) S mm k n Q X := by
  intro p e s m args below meth c H locs cells slots K N ls F hR hW hl hc hs hV
  have h := kk p e s m args below meth c H locs cells slots K N ls F hR hW hl hc hs hV
  unfold zJ at h ⊢
  rw [← zjor_v] at h
  exact lv_lor F.1 F.2.1 hd h
theorem zT.ineg {x : Int} (hd : decode M.2.1 pc = .ok (.ineg, 1)) (kk : zT G M d (pc + 1) V (zI (-x) :: st) S mm k n Q X) : zT G M d pc V (zI x :: st) S mm k n Q X := by
  intro p e s m args below meth c H locs cells slots K N ls F hR hW hl hc hs hV
  have h := kk p e s m args below meth c H locs cells slots K N ls F hR hW hl hc hs hV
  unfold zI at h ⊢
  rw [← zi_neg] at h
  exact lv_ineg F.1 F.2.1 hd h
theorem zT.idiv {x y : Int} (hd : decode M.2.1 pc = .ok (.idiv, 1)) (h0 : 0 ≤ x) (h1 : x < 2147483648) (h2 : 0 < y) (h3 : y < 2147483648) (kk : zT G M d (pc + 1) V (zI (x / y) :: st) S mm k n Q X) : zT G M d pc V (zI y :: zI x :: st) S mm k n Q X := by
  intro p e s m args below meth c H locs cells slots K N ls F hR hW hl hc hs hV
  have h := kk p e s m args below meth c H locs cells slots K N ls F hR hW hl hc hs hV
  have hy : zi y := ⟨by omega, h3⟩
  unfold zI at h ⊢
  rw [← zi_div h0 h1 h2 h3] at h
  exact lv_idiv F.1 F.2.1 hd (fun q => by rw [zi_n0 hy] at q; omega) h
theorem zT.irem {x y : Int} (hd : decode M.2.1 pc = .ok (.irem, 1)) (h0 : 0 ≤ x) (h1 : x < 2147483648) (h2 : 0 < y) (h3 : y < 2147483648) (kk : zT G M d (pc + 1) V (zI (x % y) :: st) S mm k n Q X) : zT G M d pc V (zI y :: zI x :: st) S mm k n Q X := by
  intro p e s m args below meth c H locs cells slots K N ls F hR hW hl hc hs hV
  have h := kk p e s m args below meth c H locs cells slots K N ls F hR hW hl hc hs hV
  have hy : zi y := ⟨by omega, h3⟩
  unfold zI at h ⊢
  rw [← zi_rem h0 h1 h2 h3] at h
  exact lv_irem F.1 F.2.1 hd (fun q => by rw [zi_n0 hy] at q; omega) h
theorem zT.ldiv {x y : Int} (hd : decode M.2.1 pc = .ok (.ldiv, 1)) (h0 : 0 ≤ x) (h1 : x < 9223372036854775808) (h2 : 0 < y) (h3 : y < 9223372036854775808) (kk : zT G M d (pc + 1) V (zJ (x / y) :: st) S mm k n Q X) : zT G M d pc V (zJ y :: zJ x :: st) S mm k n Q X := by
  intro p e s m args below meth c H locs cells slots K N ls F hR hW hl hc hs hV
  have h := kk p e s m args below meth c H locs cells slots K N ls F hR hW hl hc hs hV
  have hy : zj y := ⟨by omega, h3⟩
  unfold zJ at h ⊢
  rw [← zj_div h0 h1 h2 h3] at h
  exact lv_ldiv F.1 F.2.1 hd (fun q => by rw [show (0 : Int64) = Int64.ofInt 0 by decide +kernel, zj_eq hy zj_0] at q; omega) h
theorem zT.lrem {x y : Int} (hd : decode M.2.1 pc = .ok (.lrem, 1)) (h0 : 0 ≤ x) (h1 : x < 9223372036854775808) (h2 : 0 < y) (h3 : y < 9223372036854775808) (kk : zT G M d (pc + 1) V (zJ (x % y) :: st) S mm k n Q X) : zT G M d pc V (zJ y :: zJ x :: st) S mm k n Q X := by
  intro p e s m args below meth c H locs cells slots K N ls F hR hW hl hc hs hV
  have h := kk p e s m args below meth c H locs cells slots K N ls F hR hW hl hc hs hV
  have hy : zj y := ⟨by omega, h3⟩
  unfold zJ at h ⊢
  rw [← zj_rem h0 h1 h2 h3] at h
  exact lv_lrem F.1 F.2.1 hd (fun q => by rw [show (0 : Int64) = Int64.ofInt 0 by decide +kernel, zj_eq hy zj_0] at q; omega) h
theorem zT.ishl {x y : Int} (hd : decode M.2.1 pc = .ok (.ishl, 1)) (h0 : 0 ≤ y) (h1 : y < 32) (kk : zT G M d (pc + 1) V (zI (x * 2 ^ y.toNat) :: st) S mm k n Q X) : zT G M d pc V (zI y :: zI x :: st) S mm k n Q X := by
  intro p e s m args below meth c H locs cells slots K N ls F hR hW hl hc hs hV
  have h := kk p e s m args below meth c H locs cells slots K N ls F hR hW hl hc hs hV
  unfold zI at h ⊢
  rw [← zi_shl x h0 h1] at h
  exact lv_ishl F.1 F.2.1 hd h
theorem zT.ishr {x y : Int} (hd : decode M.2.1 pc = .ok (.ishr, 1)) (hx : zi x) (h0 : 0 ≤ y) (h1 : y < 32) (kk : zT G M d (pc + 1) V (zI (x / 2 ^ y.toNat) :: st) S mm k n Q X) : zT G M d pc V (zI y :: zI x :: st) S mm k n Q X := by
  intro p e s m args below meth c H locs cells slots K N ls F hR hW hl hc hs hV
  have h := kk p e s m args below meth c H locs cells slots K N ls F hR hW hl hc hs hV
  unfold zI at h ⊢
  rw [← zi_shr hx h0 h1] at h
  exact lv_ishr F.1 F.2.1 hd h
theorem zT.iushr {x y : Int} (hd : decode M.2.1 pc = .ok (.iushr, 1)) (h0 : 0 ≤ y) (h1 : y < 32) (kk : zT G M d (pc + 1) V (zI (x % 4294967296 / 2 ^ y.toNat) :: st) S mm k n Q X) : zT G M d pc V (zI y :: zI x :: st) S mm k n Q X := by
  intro p e s m args below meth c H locs cells slots K N ls F hR hW hl hc hs hV
  exact lv_iushr F.1 F.2.1 hd (zi_ushr x h0 h1) (kk p e s m args below meth c H locs cells slots K N ls F hR hW hl hc hs hV)
theorem zT.lshl {x y : Int} (hd : decode M.2.1 pc = .ok (.lshl, 1)) (h0 : 0 ≤ y) (h1 : y < 64) (kk : zT G M d (pc + 1) V (zJ (x * 2 ^ y.toNat) :: st) S mm k n Q X) : zT G M d pc V (zI y :: zJ x :: st) S mm k n Q X := by
  intro p e s m args below meth c H locs cells slots K N ls F hR hW hl hc hs hV
  exact lv_lshl F.1 F.2.1 hd (zj_shl x h0 h1) (kk p e s m args below meth c H locs cells slots K N ls F hR hW hl hc hs hV)
theorem zT.lshr {x y : Int} (hd : decode M.2.1 pc = .ok (.lshr, 1)) (hx : zj x) (h0 : 0 ≤ y) (h1 : y < 64) (kk : zT G M d (pc + 1) V (zJ (x / 2 ^ y.toNat) :: st) S mm k n Q X) : zT G M d pc V (zI y :: zJ x :: st) S mm k n Q X := by
  intro p e s m args below meth c H locs cells slots K N ls F hR hW hl hc hs hV
  exact lv_lshr F.1 F.2.1 hd (zj_shr hx h0 h1) (kk p e s m args below meth c H locs cells slots K N ls F hR hW hl hc hs hV)
theorem zT.i2l {x : Int} (hd : decode M.2.1 pc = .ok (.i2l, 1)) (hx : zi x) (kk : zT G M d (pc + 1) V (zJ x :: st) S mm k n Q X) : zT G M d pc V (zI x :: st) S mm k n Q X := by
  intro p e s m args below meth c H locs cells slots K N ls F hR hW hl hc hs hV
  exact lv_i2l F.1 F.2.1 hd (zi_l hx) (kk p e s m args below meth c H locs cells slots K N ls F hR hW hl hc hs hV)
theorem zT.l2i {x : Int} (hd : decode M.2.1 pc = .ok (.l2i, 1)) (kk : zT G M d (pc + 1) V (zI x :: st) S mm k n Q X) : zT G M d pc V (zJ x :: st) S mm k n Q X := by
  intro p e s m args below meth c H locs cells slots K N ls F hR hW hl hc hs hV
  exact lv_l2i F.1 F.2.1 hd (zj_i x) (kk p e s m args below meth c H locs cells slots K N ls F hR hW hl hc hs hV)
theorem zT.i2b {x : Int} (hd : decode M.2.1 pc = .ok (.i2b, 1)) (kk : zT G M d (pc + 1) V (zI (x.bmod 256) :: st) S mm k n Q X) : zT G M d pc V (zI x :: st) S mm k n Q X := by
  intro p e s m args below meth c H locs cells slots K N ls F hR hW hl hc hs hV
  exact lv_i2b F.1 F.2.1 hd (zi_b x) (kk p e s m args below meth c H locs cells slots K N ls F hR hW hl hc hs hV)
theorem zT.dup {v : Value} (hd : decode M.2.1 pc = .ok (.dup, 1)) (hv : v.category = 1) (kk : zT G M d (pc + 1) V (v :: v :: st) S mm k n Q X) : zT G M d pc V (v :: st) S mm k n Q X := by
  intro p e s m args below meth c H locs cells slots K N ls F hR hW hl hc hs hV
  exact lv_dup F.1 F.2.1 hd hv (kk p e s m args below meth c H locs cells slots K N ls F hR hW hl hc hs hV)
theorem zT.pop {v : Value} (hd : decode M.2.1 pc = .ok (.pop, 1)) (hv : v.category = 1) (kk : zT G M d (pc + 1) V (st) S mm k n Q X) : zT G M d pc V (v :: st) S mm k n Q X := by
  intro p e s m args below meth c H locs cells slots K N ls F hR hW hl hc hs hV
  exact lv_pop F.1 F.2.1 hd hv (kk p e s m args below meth c H locs cells slots K N ls F hR hW hl hc hs hV)
theorem zT.dup2 {v w : Value} (hd : decode M.2.1 pc = .ok (.dup2, 1)) (hv : v.category = 1) (hw : w.category = 1) (kk : zT G M d (pc + 1) V (v :: w :: v :: w :: st) S mm k n Q X) : zT G M d pc V (v :: w :: st) S mm k n Q X := by
  intro p e s m args below meth c H locs cells slots K N ls F hR hW hl hc hs hV
  exact lv_dup2_11 F.1 F.2.1 hd hv hw (kk p e s m args below meth c H locs cells slots K N ls F hR hW hl hc hs hV)
theorem zT.dup_x1 {v w : Value} (hd : decode M.2.1 pc = .ok (.dup_x1, 1)) (hv : v.category = 1) (hw : w.category = 1) (kk : zT G M d (pc + 1) V (v :: w :: v :: st) S mm k n Q X) : zT G M d pc V (v :: w :: st) S mm k n Q X := by
  intro p e s m args below meth c H locs cells slots K N ls F hR hW hl hc hs hV
  exact lv_dup_x1 F.1 F.2.1 hd hv hw (kk p e s m args below meth c H locs cells slots K N ls F hR hW hl hc hs hV)
theorem zT.dup_x2 {v w u : Value} (hd : decode M.2.1 pc = .ok (.dup_x2, 1)) (hv : v.category = 1) (hw : w.category = 1) (hu : u.category = 1) (kk : zT G M d (pc + 1) V (v :: w :: u :: v :: st) S mm k n Q X) : zT G M d pc V (v :: w :: u :: st) S mm k n Q X := by
  intro p e s m args below meth c H locs cells slots K N ls F hR hW hl hc hs hV
  exact lv_dup_x2 F.1 F.2.1 hd hv hw hu (kk p e s m args below meth c H locs cells slots K N ls F hR hW hl hc hs hV)
theorem zT.if_eq {x off : Int} {tgt : Nat} (hd : decode M.2.1 pc = .ok (.ifCond .eq off, 3)) (ht : (pc : Int) + off = (tgt : Int)) (hx : zi x) (kt : x = 0 → zT G M d (tgt) V (st) S mm k n Q X) (kf : ¬ x = 0 → zT G M d (pc + 3) V (st) S mm k n Q X) : zT G M d pc V (zI x :: st) S mm k n Q X := by
  intro p e s m args below meth c H locs cells slots K N ls F hR hW hl hc hs hV
  exact lv_if_eq F.1 F.2.1 hd ht (fun q => kt ((zi_n0 hx).mp q) p e s m args below meth c H locs cells slots K N ls F hR hW hl hc hs hV) (fun q => kf (fun z => q ((zi_n0 hx).mpr z)) p e s m args below meth c H locs cells slots K N ls F hR hW hl hc hs hV)
theorem zT.if_ne {x off : Int} {tgt : Nat} (hd : decode M.2.1 pc = .ok (.ifCond .ne off, 3)) (ht : (pc : Int) + off = (tgt : Int)) (hx : zi x) (kt : ¬ x = 0 → zT G M d (tgt) V (st) S mm k n Q X) (kf : x = 0 → zT G M d (pc + 3) V (st) S mm k n Q X) : zT G M d pc V (zI x :: st) S mm k n Q X := by
  intro p e s m args below meth c H locs cells slots K N ls F hR hW hl hc hs hV
  exact lv_if_ne F.1 F.2.1 hd ht (fun q => kt (fun z => q ((zi_n0 hx).mpr z)) p e s m args below meth c H locs cells slots K N ls F hR hW hl hc hs hV) (fun q => kf ((zi_n0 hx).mp q) p e s m args below meth c H locs cells slots K N ls F hR hW hl hc hs hV)
theorem zT.if_lt {x off : Int} {tgt : Nat} (hd : decode M.2.1 pc = .ok (.ifCond .lt off, 3)) (ht : (pc : Int) + off = (tgt : Int)) (hx : zi x) (kt : x < 0 → zT G M d (tgt) V (st) S mm k n Q X) (kf : ¬ x < 0 → zT G M d (pc + 3) V (st) S mm k n Q X) : zT G M d pc V (zI x :: st) S mm k n Q X := by
  intro p e s m args below meth c H locs cells slots K N ls F hR hW hl hc hs hV
  exact lv_if_lt F.1 F.2.1 hd ht (fun q => kt ((zi_lt0 hx).mp q) p e s m args below meth c H locs cells slots K N ls F hR hW hl hc hs hV) (fun q => kf (fun z => q ((zi_lt0 hx).mpr z)) p e s m args below meth c H locs cells slots K N ls F hR hW hl hc hs hV)
theorem zT.if_ge {x off : Int} {tgt : Nat} (hd : decode M.2.1 pc = .ok (.ifCond .ge off, 3)) (ht : (pc : Int) + off = (tgt : Int)) (hx : zi x) (kt : 0 ≤ x → zT G M d (tgt) V (st) S mm k n Q X) (kf : ¬ 0 ≤ x → zT G M d (pc + 3) V (st) S mm k n Q X) : zT G M d pc V (zI x :: st) S mm k n Q X := by
  intro p e s m args below meth c H locs cells slots K N ls F hR hW hl hc hs hV
  exact lv_if_ge F.1 F.2.1 hd ht (fun q => kt ((zi_ge0 hx).mp q) p e s m args below meth c H locs cells slots K N ls F hR hW hl hc hs hV) (fun q => kf (fun z => q ((zi_ge0 hx).mpr z)) p e s m args below meth c H locs cells slots K N ls F hR hW hl hc hs hV)
theorem zT.if_gt {x off : Int} {tgt : Nat} (hd : decode M.2.1 pc = .ok (.ifCond .gt off, 3)) (ht : (pc : Int) + off = (tgt : Int)) (hx : zi x) (kt : 0 < x → zT G M d (tgt) V (st) S mm k n Q X) (kf : ¬ 0 < x → zT G M d (pc + 3) V (st) S mm k n Q X) : zT G M d pc V (zI x :: st) S mm k n Q X := by
  intro p e s m args below meth c H locs cells slots K N ls F hR hW hl hc hs hV
  exact lv_if_gt F.1 F.2.1 hd ht (fun q => kt ((zi_gt0 hx).mp q) p e s m args below meth c H locs cells slots K N ls F hR hW hl hc hs hV) (fun q => kf (fun z => q ((zi_gt0 hx).mpr z)) p e s m args below meth c H locs cells slots K N ls F hR hW hl hc hs hV)
theorem zT.if_le {x off : Int} {tgt : Nat} (hd : decode M.2.1 pc = .ok (.ifCond .le off, 3)) (ht : (pc : Int) + off = (tgt : Int)) (hx : zi x) (kt : x ≤ 0 → zT G M d (tgt) V (st) S mm k n Q X) (kf : ¬ x ≤ 0 → zT G M d (pc + 3) V (st) S mm k n Q X) : zT G M d pc V (zI x :: st) S mm k n Q X := by
  intro p e s m args below meth c H locs cells slots K N ls F hR hW hl hc hs hV
  exact lv_if_le F.1 F.2.1 hd ht (fun q => kt ((zi_le0 hx).mp q) p e s m args below meth c H locs cells slots K N ls F hR hW hl hc hs hV) (fun q => kf (fun z => q ((zi_le0 hx).mpr z)) p e s m args below meth c H locs cells slots K N ls F hR hW hl hc hs hV)
theorem zT.ic_eq {x y off : Int} {tgt : Nat} (hd : decode M.2.1 pc = .ok (.if_icmp .eq off, 3)) (ht : (pc : Int) + off = (tgt : Int)) (hx : zi x) (hy : zi y) (kt : x = y → zT G M d (tgt) V (st) S mm k n Q X) (kf : ¬ x = y → zT G M d (pc + 3) V (st) S mm k n Q X) : zT G M d pc V (zI y :: zI x :: st) S mm k n Q X := by
  intro p e s m args below meth c H locs cells slots K N ls F hR hW hl hc hs hV
  exact lv_icmp_eq F.1 F.2.1 hd ht (fun q => kt ((zi_eq hx hy).mp q) p e s m args below meth c H locs cells slots K N ls F hR hW hl hc hs hV) (fun q => kf (fun z => q ((zi_eq hx hy).mpr z)) p e s m args below meth c H locs cells slots K N ls F hR hW hl hc hs hV)
theorem zT.ic_ne {x y off : Int} {tgt : Nat} (hd : decode M.2.1 pc = .ok (.if_icmp .ne off, 3)) (ht : (pc : Int) + off = (tgt : Int)) (hx : zi x) (hy : zi y) (kt : ¬ x = y → zT G M d (tgt) V (st) S mm k n Q X) (kf : x = y → zT G M d (pc + 3) V (st) S mm k n Q X) : zT G M d pc V (zI y :: zI x :: st) S mm k n Q X := by
  intro p e s m args below meth c H locs cells slots K N ls F hR hW hl hc hs hV
  exact lv_icmp_ne F.1 F.2.1 hd ht (fun q => kt (fun z => q ((zi_eq hx hy).mpr z)) p e s m args below meth c H locs cells slots K N ls F hR hW hl hc hs hV) (fun q => kf ((zi_eq hx hy).mp q) p e s m args below meth c H locs cells slots K N ls F hR hW hl hc hs hV)
theorem zT.ic_lt {x y off : Int} {tgt : Nat} (hd : decode M.2.1 pc = .ok (.if_icmp .lt off, 3)) (ht : (pc : Int) + off = (tgt : Int)) (hx : zi x) (hy : zi y) (kt : x < y → zT G M d (tgt) V (st) S mm k n Q X) (kf : ¬ x < y → zT G M d (pc + 3) V (st) S mm k n Q X) : zT G M d pc V (zI y :: zI x :: st) S mm k n Q X := by
  intro p e s m args below meth c H locs cells slots K N ls F hR hW hl hc hs hV
  exact lv_icmp_lt F.1 F.2.1 hd ht (fun q => kt ((zi_lt hx hy).mp q) p e s m args below meth c H locs cells slots K N ls F hR hW hl hc hs hV) (fun q => kf (fun z => q ((zi_lt hx hy).mpr z)) p e s m args below meth c H locs cells slots K N ls F hR hW hl hc hs hV)
theorem zT.ic_ge {x y off : Int} {tgt : Nat} (hd : decode M.2.1 pc = .ok (.if_icmp .ge off, 3)) (ht : (pc : Int) + off = (tgt : Int)) (hx : zi x) (hy : zi y) (kt : y ≤ x → zT G M d (tgt) V (st) S mm k n Q X) (kf : ¬ y ≤ x → zT G M d (pc + 3) V (st) S mm k n Q X) : zT G M d pc V (zI y :: zI x :: st) S mm k n Q X := by
  intro p e s m args below meth c H locs cells slots K N ls F hR hW hl hc hs hV
  exact lv_icmp_ge F.1 F.2.1 hd ht (fun q => kt ((zi_le hy hx).mp q) p e s m args below meth c H locs cells slots K N ls F hR hW hl hc hs hV) (fun q => kf (fun z => q ((zi_le hy hx).mpr z)) p e s m args below meth c H locs cells slots K N ls F hR hW hl hc hs hV)
theorem zT.ic_gt {x y off : Int} {tgt : Nat} (hd : decode M.2.1 pc = .ok (.if_icmp .gt off, 3)) (ht : (pc : Int) + off = (tgt : Int)) (hx : zi x) (hy : zi y) (kt : y < x → zT G M d (tgt) V (st) S mm k n Q X) (kf : ¬ y < x → zT G M d (pc + 3) V (st) S mm k n Q X) : zT G M d pc V (zI y :: zI x :: st) S mm k n Q X := by
  intro p e s m args below meth c H locs cells slots K N ls F hR hW hl hc hs hV
  exact lv_icmp_gt F.1 F.2.1 hd ht (fun q => kt ((zi_lt hy hx).mp q) p e s m args below meth c H locs cells slots K N ls F hR hW hl hc hs hV) (fun q => kf (fun z => q ((zi_lt hy hx).mpr z)) p e s m args below meth c H locs cells slots K N ls F hR hW hl hc hs hV)
theorem zT.ic_le {x y off : Int} {tgt : Nat} (hd : decode M.2.1 pc = .ok (.if_icmp .le off, 3)) (ht : (pc : Int) + off = (tgt : Int)) (hx : zi x) (hy : zi y) (kt : x ≤ y → zT G M d (tgt) V (st) S mm k n Q X) (kf : ¬ x ≤ y → zT G M d (pc + 3) V (st) S mm k n Q X) : zT G M d pc V (zI y :: zI x :: st) S mm k n Q X := by
  intro p e s m args below meth c H locs cells slots K N ls F hR hW hl hc hs hV
  exact lv_icmp_le F.1 F.2.1 hd ht (fun q => kt ((zi_le hx hy).mp q) p e s m args below meth c H locs cells slots K N ls F hR hW hl hc hs hV) (fun q => kf (fun z => q ((zi_le hx hy).mpr z)) p e s m args below meth c H locs cells slots K N ls F hR hW hl hc hs hV)
def zb (P : Prop) [Decidable P] : Int := if P then 1 else 0
theorem zb_i (P : Prop) [Decidable P] : zi (zb P) := by
  unfold zb zi
  split <;> omega
theorem zb_01 (P : Prop) [Decidable P] : zb P = 0 ∨ zb P = 1 := by
  unfold zb
  split <;> omega
theorem zb_t {P : Prop} [Decidable P] (h : P) : zb P = 1 := if_pos h
theorem zb_f {P : Prop} [Decidable P] (h : ¬ P) : zb P = 0 := if_neg h
theorem zb_0 {P : Prop} [Decidable P] : zb P = 0 ↔ ¬ P := by
  unfold zb
  split <;> simp_all
theorem zb_c {P R : Prop} [Decidable P] [Decidable R] (h : P ↔ R) : zb P = zb R := by
  unfold zb
  simp only [h]
theorem zT.if_eqB {P : Prop} {iP : Decidable P} {off : Int} {tgt : Nat} (hd : decode M.2.1 pc = .ok (.ifCond .eq off, 3)) (ht : (pc : Int) + off = (tgt : Int)) (kt : ¬ P → zT G M d (tgt) V (st) S mm k n Q X) (kf : P → zT G M d (pc + 3) V (st) S mm k n Q X) : zT G M d pc V (zI (@zb P iP) :: st) S mm k n Q X := by
  intro p e s m args below meth c H locs cells slots K N ls F hR hW hl hc hs hV
  exact zT.if_eq hd ht (@zb_i P iP) (fun q => kt (zb_0.mp q)) (fun q => kf (Classical.byContradiction fun z => q (zb_0.mpr z))) p e s m args below meth c H locs cells slots K N ls F hR hW hl hc hs hV
theorem zT.if_neB {P : Prop} {iP : Decidable P} {off : Int} {tgt : Nat} (hd : decode M.2.1 pc = .ok (.ifCond .ne off, 3)) (ht : (pc : Int) + off = (tgt : Int)) (kt : P → zT G M d (tgt) V (st) S mm k n Q X) (kf : ¬ P → zT G M d (pc + 3) V (st) S mm k n Q X) : zT G M d pc V (zI (@zb P iP) :: st) S mm k n Q X := by
  intro p e s m args below meth c H locs cells slots K N ls F hR hW hl hc hs hV
  exact zT.if_ne hd ht (@zb_i P iP) (fun q => kt (Classical.byContradiction fun z => q (zb_0.mpr z))) (fun q => kf (zb_0.mp q)) p e s m args below meth c H locs cells slots K N ls F hR hW hl hc hs hV
theorem zT.goto {off : Int} {tgt : Nat} (hd : decode M.2.1 pc = .ok (.goto off, 3)) (ht : (pc : Int) + off = (tgt : Int)) (kk : zT G M d (tgt) V (st) S mm k n Q X) : zT G M d pc V (st) S mm k n Q X := by
  intro p e s m args below meth c H locs cells slots K N ls F hR hW hl hc hs hV
  exact lv_goto F.1 F.2.1 hd ht (kk p e s m args below meth c H locs cells slots K N ls F hR hW hl hc hs hV)
theorem zj_cmp_i (a b : Int) : (zI (lg_cmp (Int64.ofInt a) (Int64.ofInt b)).toInt) = .int (lg_cmp (Int64.ofInt a) (Int64.ofInt b)) := (zI_of _).symm
theorem zT.lc_ne {x y off : Int} {tgt : Nat} (hd : decode M.2.1 pc = .ok (.lcmp, 1)) (hd2 : decode M.2.1 (pc + 1) = .ok (.ifCond .ne off, 3)) (ht : ((pc + 1 : Nat) : Int) + off = (tgt : Int)) (hx : zj x) (hy : zj y) (kt : ¬ x = y → zT G M d (tgt) V (st) S mm k n Q X) (kf : x = y → zT G M d (pc + 1 + 3) V (st) S mm k n Q X) : zT G M d pc V (zJ y :: zJ x :: st) S mm k n Q X := by
  intro p e s m args below meth c H locs cells slots K N ls F hR hW hl hc hs hV
  exact W.lcmp F.1 F.2.1 hd (lv_if_ne F.1 F.2.1 hd2 ht (fun q => kt (fun z => q ((zj_cmp_eq hx hy).mpr z)) p e s m args below meth c H locs cells slots K N ls F hR hW hl hc hs hV) (fun q => kf ((zj_cmp_eq hx hy).mp q) p e s m args below meth c H locs cells slots K N ls F hR hW hl hc hs hV))
theorem zT.lc_eq {x y off : Int} {tgt : Nat} (hd : decode M.2.1 pc = .ok (.lcmp, 1)) (hd2 : decode M.2.1 (pc + 1) = .ok (.ifCond .eq off, 3)) (ht : ((pc + 1 : Nat) : Int) + off = (tgt : Int)) (hx : zj x) (hy : zj y) (kt : x = y → zT G M d (tgt) V (st) S mm k n Q X) (kf : ¬ x = y → zT G M d (pc + 1 + 3) V (st) S mm k n Q X) : zT G M d pc V (zJ y :: zJ x :: st) S mm k n Q X := by
  intro p e s m args below meth c H locs cells slots K N ls F hR hW hl hc hs hV
  exact W.lcmp F.1 F.2.1 hd (lv_if_eq F.1 F.2.1 hd2 ht (fun q => kt ((zj_cmp_eq hx hy).mp q) p e s m args below meth c H locs cells slots K N ls F hR hW hl hc hs hV) (fun q => kf (fun z => q ((zj_cmp_eq hx hy).mpr z)) p e s m args below meth c H locs cells slots K N ls F hR hW hl hc hs hV))
theorem zT.lc_le {x y off : Int} {tgt : Nat} (hd : decode M.2.1 pc = .ok (.lcmp, 1)) (hd2 : decode M.2.1 (pc + 1) = .ok (.ifCond .le off, 3)) (ht : ((pc + 1 : Nat) : Int) + off = (tgt : Int)) (hx : zj x) (hy : zj y) (kt : x ≤ y → zT G M d (tgt) V (st) S mm k n Q X) (kf : ¬ x ≤ y → zT G M d (pc + 1 + 3) V (st) S mm k n Q X) : zT G M d pc V (zJ y :: zJ x :: st) S mm k n Q X := by
  intro p e s m args below meth c H locs cells slots K N ls F hR hW hl hc hs hV
  exact W.lcmp F.1 F.2.1 hd (lv_if_le F.1 F.2.1 hd2 ht (fun q => kt ((zj_cmp_le hx hy).mp q) p e s m args below meth c H locs cells slots K N ls F hR hW hl hc hs hV) (fun q => kf (fun z => q ((zj_cmp_le hx hy).mpr z)) p e s m args below meth c H locs cells slots K N ls F hR hW hl hc hs hV))
theorem zT.lc_gt {x y off : Int} {tgt : Nat} (hd : decode M.2.1 pc = .ok (.lcmp, 1)) (hd2 : decode M.2.1 (pc + 1) = .ok (.ifCond .gt off, 3)) (ht : ((pc + 1 : Nat) : Int) + off = (tgt : Int)) (hx : zj x) (hy : zj y) (kt : ¬ x ≤ y → zT G M d (tgt) V (st) S mm k n Q X) (kf : x ≤ y → zT G M d (pc + 1 + 3) V (st) S mm k n Q X) : zT G M d pc V (zJ y :: zJ x :: st) S mm k n Q X := by
  intro p e s m args below meth c H locs cells slots K N ls F hR hW hl hc hs hV
  exact W.lcmp F.1 F.2.1 hd (lv_if_gt F.1 F.2.1 hd2 ht (fun q => kt (fun z => absurd ((zj_cmp_le hx hy).mpr z) (Int32.not_le.mpr q)) p e s m args below meth c H locs cells slots K N ls F hR hW hl hc hs hV) (fun q => kf ((zj_cmp_le hx hy).mp (Int32.not_lt.mp q)) p e s m args below meth c H locs cells slots K N ls F hR hW hl hc hs hV))
theorem zT.ifnull {x off : Int} {tgt : Nat} (hd : decode M.2.1 pc = .ok (.ifnull off, 3)) (ht : (pc : Int) + off = (tgt : Int)) (kt : x < 0 → zT G M d (tgt) V (st) S mm k n Q X) (kf : 0 ≤ x → zT G M d (pc + 3) V (st) S mm k n Q X) : zT G M d pc V (zR x :: st) S mm k n Q X := by
  intro p e s m args below meth c H locs cells slots K N ls F hR hW hl hc hs hV
  rcases Int.lt_or_le x 0 with q | q
  · rw [zR_neg q]
    exact lv_ifnullN F.1 F.2.1 hd ht (kt q p e s m args below meth c H locs cells slots K N ls F hR hW hl hc hs hV)
  · rw [zR_pos q]
    exact lv_ifnull F.1 F.2.1 hd (kf q p e s m args below meth c H locs cells slots K N ls F hR hW hl hc hs hV)
theorem zT.ifnonnull {x off : Int} {tgt : Nat} (hd : decode M.2.1 pc = .ok (.ifnonnull off, 3)) (ht : (pc : Int) + off = (tgt : Int)) (kt : 0 ≤ x → zT G M d (tgt) V (st) S mm k n Q X) (kf : x < 0 → zT G M d (pc + 3) V (st) S mm k n Q X) : zT G M d pc V (zR x :: st) S mm k n Q X := by
  intro p e s m args below meth c H locs cells slots K N ls F hR hW hl hc hs hV
  rcases Int.lt_or_le x 0 with q | q
  · rw [zR_neg q]
    exact lv_ifnonnullN F.1 F.2.1 hd (kf q p e s m args below meth c H locs cells slots K N ls F hR hW hl hc hs hV)
  · rw [zR_pos q]
    exact lv_ifnonnull F.1 F.2.1 hd ht (kt q p e s m args below meth c H locs cells slots K N ls F hR hW hl hc hs hV)
def zSw (P : Nat → Prop) (x : Int) (pc : Nat) : Int → List Int → List Nat → Prop
  | lo, o :: os, t :: ts => (pc : Int) + o = (t : Int) ∧ (x = lo → P t) ∧ zSw P x pc (lo + 1) os ts
  | _, [], [] => True
  | _, _, _ => False
theorem zSw.at {P : Nat → Prop} {x : Int} {pc : Nat} : ∀ {lo : Int} {os : List Int} {ts : List Nat}, zSw P x pc lo os ts → lo ≤ x → x < lo + os.length → ∃ (o : Int) (t : Nat), os[(x - lo).toNat]? = some o ∧ (pc : Int) + o = (t : Int) ∧ P t
  | lo, [], _, _, h1, h2 => by simp only [List.length_nil] at h2; omega
  | lo, o :: os, [], h, _, _ => h.elim
  | lo, o :: os, t :: ts, h, h1, h2 => by
    obtain ⟨a, b, c⟩ := h
    by_cases e : x = lo
    · exact ⟨o, t, by rw [e, Int.sub_self]; rfl, a, b e⟩
    · simp only [List.length_cons] at h2
      obtain ⟨o', t', g1, g2, g3⟩ := zSw.at c (by omega) (by omega)
      refine ⟨o', t', ?_, g2, g3⟩
      rw [show (x - lo).toNat = (x - (lo + 1)).toNat + 1 by omega]
      exact g1
theorem zT.tsw {x dflt lo hi : Int} {offs : Array Int} {len td : Nat} (ts : List Nat) (hd : decode M.2.1 pc = .ok (.tableswitch dflt lo hi offs, len)) (hx : zi x) (hl2 : hi + 1 = lo + offs.toList.length) (htd : (pc : Int) + dflt = (td : Int)) (kd : x < lo ∨ hi < x → zT G M d (td) V (st) S mm k n Q X) (ks : zSw (fun t => zT G M d (t) V (st) S mm k n Q X) x pc lo offs.toList ts) : zT G M d pc V (zI x :: st) S mm k n Q X := by
  intro p e s m args below meth c H locs cells slots K N ls F hR hW hl hc hs hV
  have hx' := zi_to hx
  by_cases h1 : x < lo
  · exact lv_tableOut F.1 F.2.1 hd (Or.inl (by rw [hx']; exact h1)) htd (kd (Or.inl h1) p e s m args below meth c H locs cells slots K N ls F hR hW hl hc hs hV)
  · by_cases h2 : hi < x
    · exact lv_tableOut F.1 F.2.1 hd (Or.inr (by rw [hx']; exact h2)) htd (kd (Or.inr h2) p e s m args below meth c H locs cells slots K N ls F hR hW hl hc hs hV)
    · obtain ⟨o, t, g1, g2, g3⟩ := ks.at (by omega) (by omega)
      refine lv_tableIn F.1 F.2.1 hd (by rw [hx']; exact h1) (by rw [hx']; exact h2) (off := o) ?_ g2 (g3 p e s m args below meth c H locs cells slots K N ls F hR hW hl hc hs hV)
      rw [hx', ← Array.getElem?_toList]
      exact g1
theorem zT.lsw {x dflt off : Int} {ps : Array (Int × Int)} {len t : Nat} (hd : decode M.2.1 pc = .ok (.lookupswitch dflt ps, len)) (hx : zi x) (hp : (ps.toList.zip (ps.toList.drop 1)).all (fun (a, next) => a.1 < next.1) = true) (ho : Op.lookupswitch.offset ps.toList dflt x = off) (ht : (pc : Int) + off = (t : Int)) (kk : zT G M d (t) V (st) S mm k n Q X) : zT G M d pc V (zI x :: st) S mm k n Q X := by
  intro p e s m args below meth c H locs cells slots K N ls F hR hW hl hc hs hV
  exact lv_lookup F.1 F.2.1 hd hp (by rw [zi_to hx]; exact ho) ht (kk p e s m args below meth c H locs cells slots K N ls F hR hW hl hc hs hV)
end
