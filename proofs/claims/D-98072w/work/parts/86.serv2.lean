/-! served: the class (written by gen/m_serv2.py) -/
section
variable {G : zG} {M : zM} {d pc : Nat} {V st : List Value} {S : zS} {mm : zMm} {k n : Nat} {Q : zQt} {X : zXt}
/-- how long an array may be -/
theorem zT.len {a : Int} (hk : 100 < zk S a) (kk : 0 ≤ zn S a → zn S a < 2147483648 → zT G M d pc V st S mm k n Q X) : zT G M d pc V st S mm k n Q X := by
  intro p e s m args below meth c H locs cells slots K N ls F hR hW hlo hc hs hV
  obtain ⟨q, rfl, hq1, hq2⟩ := hR.at (a := a) (by omega)
  obtain ⟨g1, g2, g3⟩ := hR.2.2.2.1 q hk
  exact kk g1 g2 p e s m args below meth c H locs cells slots K N ls F hR hW hlo hc hs hV
end
/-- only the guests' cells of the class change: M is the table -/
def zHs (x M : Int) (m m2 : zMm) : Prop := ∀ a j, a ≠ M → a ≠ x + 45 → ¬ (a = x ∧ (j = 30 ∨ j = 32)) → m2 a j = m a j
theorem zHs.up {x M a i v : Int} {m m2 : zMm} (h : zHs x M m m2) (ha : a = M ∨ a = x + 45 ∨ (a = x ∧ (i = 30 ∨ i = 32))) : zHs x M m (zup m2 a i v) := fun b j h1 h2 h3 => by
  rw [zup_ne (by omega)]
  exact h b j h1 h2 h3
theorem zKit.old {S : zS} {p M : Int} (h : zKit S p) (hM : zk S M = 0 ∨ zMa S M) {a : Int} (h0 : p ≤ a) (h1 : a < p + 9) : a ≠ M := by
  have key : ∀ b, zOld S b → b ≠ M := fun b hb q => by
    subst q
    rcases hM with z | z
    · exact hb.1 z
    · exact hb.2 z
  refine key a ?_
  rcases (by omega : a = p ∨ a = p + 1 ∨ a = p + 2 ∨ a = p + 3 ∨ a = p + 4 ∨ a = p + 5 ∨ a = p + 6 ∨ a = p + 7 ∨ a = p + 8) with q | q | q | q | q | q | q | q | q <;> rw [q]
  · exact zOld.k h.k (by omega)
  · exact zOld.k h.a200 (by omega)
  · exact zOld.k h.a201 (by omega)
  · exact zOld.n h.a202 (by omega) h.n202 (by omega)
  · exact zOld.n h.a203 (by omega) h.n203 (by omega)
  · exact zOld.n h.a204 (by omega) h.n204 (by omega)
  · exact zOld.n h.a205 (by omega) h.n205 (by omega)
  · exact zOld.n h.a206 (by omega) h.n206 (by omega)
  · exact zOld.k h.a207 (by omega)
def uSv (A : zMm) (n : Int) (V : Int → Int) : zMm := fun o j => if o = 29 then V j else if o = 0 ∧ j = 1049 then n else A o j
theorem uSv_o {A : zMm} {n : Int} {V : Int → Int} {o j : Int} (h : ¬ (o = 29 ∨ (o = 0 ∧ j = 1049))) : uSv A n V o j = A o j := by
  unfold uSv
  rw [if_neg (by omega), if_neg (by omega)]
theorem uSv_n {A : zMm} {n : Int} {V : Int → Int} : uSv A n V 0 1049 = n := by
  unfold uSv
  rw [if_neg (by omega), if_pos ⟨rfl, rfl⟩]
theorem uSv_v {A : zMm} {n : Int} {V : Int → Int} : uSv A n V 29 = V := funext fun j => if_pos rfl
theorem rel.servc {S : zS} {m : zMm} {x n : Int} {V W : Int → Int} {A : zMm} (h : rel S m x (uSv A n V)) (e : ∀ i, 0 ≤ i → i < n → W i = V i) : rel S m x (uSv A n W) := by
  have q := h.sv
  have v := h.vsv
  rw [uSv_n] at q v
  rw [uSv_v] at q
  refine h.set_sv zGr.rf (fun k j _ _ _ _ => rfl) (fun _ _ _ _ => rfl) (fun o j z => by rw [uSv_o z, uSv_o z]) (by rw [uSv_n]; exact v) ?_
  rw [uSv_n, uSv_v]
  exact ⟨q.1, fun i a b => by rw [e i a b]; exact q.2 i a b⟩
theorem rel.serv {S S2 : zS} {m m2 : zMm} {x n M : Int} {V : Int → Int} {A : zMm} (h : rel S m x A) (hg : zGr S S2) (hz : zHs x M m m2) (hM : zk S M = 0 ∨ zMa S M) (hMx : x + 91 ≤ M) (hk : zk S2 M = 101) (hl : ∃ e, 0 ≤ e ∧ zn S2 M = 256 * e) (h30 : m2 x 30 = M) (hn : 0 ≤ n ∧ n ≤ 8) (h1 : m2 x 32 = n) (h2 : ∀ i, 0 ≤ i → i < n → m2 (x + 45) i = V i) : rel S2 m2 x (uSv A n V) := by
  have far : zFar S x m m2 := fun a a0 ho j => hz a j (fun q => by
    subst q
    rcases hM with z | z
    · exact ho.1 z
    · exact ho.2 z) (by omega) (by omega)
  have r1 : rel S (fun a j => if a = x ∧ j = 30 then m x 30 else m2 a j) x (uSv A n V) :=
    h.set_sv zGr.rf (fun k j k0 k1 hi hne => by
        show (if x + k = x ∧ j = 30 then m x 30 else m2 (x + k) j) = m (x + k) j
        by_cases q : x + k = x ∧ j = 30
        · rw [if_pos q, q.1, q.2]
        · rw [if_neg q]; exact hz _ _ (by omega) (by omega) (by omega)) (fun a a0 ho j => by
        show (if a = x ∧ j = 30 then m x 30 else m2 a j) = m a j
        rw [if_neg (by omega)]
        exact far a a0 ho j) (fun o j q => uSv_o q) (by rw [uSv_n]; exact hn) (by
        rw [uSv_n, uSv_v]
        refine ⟨Or.inl ?_, fun i i0 i1 => ?_⟩
        · show (if x = x ∧ (32 : Int) = 30 then m x 30 else m2 x 32) = n
          rw [if_neg (by omega)]; exact h1
        · show (if x + 45 = x ∧ i = 30 then m x 30 else m2 (x + 45) i) = V i
          rw [if_neg (by omega)]; exact h2 i i0 i1)
  refine r1.set_mo hg (fun k j k0 k1 hi hne => ?_) (fun a a0 ho j => ?_) (fun _ _ _ => rfl) ⟨by rw [h30]; exact hk, Or.inr (by rw [h30]; exact hMx), by rw [h30]; exact hl⟩
  · show m2 (x + k) j = (if x + k = x ∧ j = 30 then m x 30 else m2 (x + k) j)
    rw [if_neg (by omega)]
  · show m2 a j = (if a = x ∧ j = 30 then m x 30 else m2 a j)
    rw [if_neg (by omega)]
theorem C_X1_served {G : zG}  {S : zS} {m : zMm} {x : Int} {A : zMm} (hR : rel S m x A) {u : Int} (hu : zi u) : zC G mX1_served 4 1 87552 [zR x, zI u] S m (/- qabs -/ zPo S m x (some (zI (if 1 ≤ u ∧ u ≤ 40 then sTb (aK (A 0 1023) (A 2)) u (340 / u + 1) (340 / u + 1).toNat 0 else -1))) (if 1 ≤ u ∧ u ≤ 40 then uSv A ((aK (A 0 1023) (A 2)) 6) (fun g => sAt (aK (A 0 1023) (A 2)) u (340 / u + 1) g (340 / u + 1).toNat) else A)) zNX := by
  have hk := hR.vki.1
  have hKi := (hR.ki.2.1).ki hk
  have hKn := hKi.nu
  have hkr := hR.ki.2.1
  have hkf := hkr.2.1
  have hk0 := hk.1
  have hkx := hR.ki.1
  refine zC.of [zR x, zI u, zU, zU, zU, zU, zU, zU, zU, zU] (by decide) rfl (zEn1 (zcR _) (zEn1 (zcI _) (zEn0 (by simp)))) rfl ?_
  obtain ⟨Q9, eQ9⟩ : ∃ z : zQt, z = (/- qabs -/ zPo S m x (some (zI (if 1 ≤ u ∧ u ≤ 40 then sTb (aK (A 0 1023) (A 2)) u (340 / u + 1) (340 / u + 1).toNat 0 else -1))) (if 1 ≤ u ∧ u ≤ 40 then uSv A ((aK (A 0 1023) (A 2)) 6) (fun g => sAt (aK (A 0 1023) (A 2)) u (340 / u + 1) g (340 / u + 1).toNat) else A)) := ⟨_, rfl⟩
  rw [← eQ9]
  refine zT.iload_n 1 dX1_served_0 rfl rfl ?_
  refine zT.iconst dX1_served_1 ?_
  refine zT.bipush dX1_served_2 ?_
  refine zT.callS (M' := mX1_isIn) [zI u, zI 1, zI 40] [] dX1_served_4 kX1_231 rfl rfl (C_X1_isIn (by first | assumption | exact zq_i _ | exact zand_i _ _ | exact zor_i _ _ | exact zxor_i _ _ | exact zN _ | omega) (by first | assumption | exact zq_i _ | exact zand_i _ _ | exact zor_i _ _ | exact zxor_i _ _ | exact zN _ | omega) (by first | assumption | exact zq_i _ | exact zand_i _ _ | exact zor_i _ _ | exact zxor_i _ _ | exact zN _ | omega)) (by decide) (k' := 1) (n' := 87552) (by omega) (by omega) (by decide) (zdk (v := some (zI (zq (1 ≤ u ∧ u ≤ 40)))) ?_) (fun _ _ _ _ h => h.elim)
  show zT G _ _ _ _ [zI (zq (1 ≤ u ∧ u ≤ 40))] _ _ _ _ _ _
  refine zT.if_neB (tgt := 12) dX1_served_7 (by decide) (fun c7 => ?_) (fun c7 => ?_)
  · refine zT.sipush dX1_served_12 ?_
    refine zT.iload_n 1 dX1_served_15 rfl rfl ?_
    refine zT.idiv dX1_served_16 (by first | assumption | exact zq_i _ | exact zand_i _ _ | exact zor_i _ _ | exact zxor_i _ _ | exact zN _ | omega) (by first | assumption | exact zq_i _ | exact zand_i _ _ | exact zor_i _ _ | exact zxor_i _ _ | exact zN _ | omega) (by first | assumption | exact zq_i _ | exact zand_i _ _ | exact zor_i _ _ | exact zxor_i _ _ | exact zN _ | omega) (by first | assumption | exact zq_i _ | exact zand_i _ _ | exact zor_i _ _ | exact zxor_i _ _ | exact zN _ | omega) ?_
    refine zT.iconst dX1_served_17 ?_
    refine zT.iadd dX1_served_18 ?_
    refine zT.istore_n 2 dX1_served_19 rfl (by decide) (zpre1 rfl (zcI _)) ?_
    show zT G _ _ _ [zR x, zI u, zI ((340 / u) + 1), zU, zU, zU, zU, zU, zU, zU] _ _ _ _ _ _ _
    obtain ⟨E, hE0⟩ : ∃ z, z = 340 / u + 1 := ⟨_, rfl⟩
    rw [← hE0]
    have hEb : 9 ≤ E ∧ E ≤ 341 := by
          have h1 : 340 / u ≤ 340 := Int.ediv_le_self _ (by omega)
          have h2 : 8 ≤ 340 / u := (Int.le_ediv_iff_mul_le (by omega)).mpr (by omega)
          omega
    obtain ⟨hmo1, hmo2, e9, he9, hmo4⟩ := hR.mo
    have hwd := hR.wd.1
    show zT G _ _ _ [zR x, zI u, zI E, zU, zU, zU, zU, zU, zU, zU] _ _ _ _ _ _ _
    refine zT.aload_n 0 dX1_served_20 rfl rfl ?_
    refine zT.getR dX1_served_21 fX1_66 rfl (zPan.k hR.sh) (j := 7) (by decide) rfl ?_
    refine zT.getI dX1_served_24 fX1_249 rfl (zKit.k hR.ki.2.1.1) (j := 9) (by decide) rfl (fun z24 => ?_)
    rw [hkf.2.2.2.2.2.2.1]
    show zT G _ _ _ _ [zI ((aK (A 0 1023) (A 2)) 6)] _ _ _ _ _ _
    refine zT.istore_n 3 dX1_served_27 rfl (by decide) (zpre1 rfl (zcI _)) ?_
    show zT G _ _ _ [zR x, zI u, zI E, zI ((aK (A 0 1023) (A 2)) 6), zU, zU, zU, zU, zU, zU] _ _ _ _ _ _ _
    have L56 : ∀ (N : Nat) (SA : zS) (mA : zMm) (M : Int) (e8 : Int), (zGr S SA) → (zk SA M = 101) → (zn SA M = 256 * e8) → (E + 1 ≤ e8) → (mA x 30 = M) → (x + 91 ≤ M) → (zk S M = 0 ∨ zMa S M) → (zHs x M m mA) → 0 < N → zT G mX1_served 4 56 [zR x, zI u, zI E, zI ((aK (A 0 1023) (A 2)) 6), zU, zU, zU, zU, zU, zU] [] SA mA 0 0 Q9 zNX := by
      intro N
      induction N with
      | zero => intro SA mA M e8 hg kM nM he8 h30 hMx hMo hz hN; exact absurd hN (Nat.not_lt_zero _)
      | succ N ih56 =>
        intro SA mA M e8 hg kM nM he8 h30 hMx hMo hz hN
        have hKM : ∀ {a : Int}, m x 7 ≤ a → a < m x 7 + 9 → a ≠ M := fun h0 h1 => hkr.1.old hMo h0 h1
        have hA := sAl_b hk
        have hkx := hR.ki.1
        refine zT.iconst dX1_served_56 ?_
        refine zT.iload_n 3 dX1_served_57 rfl rfl ?_
        refine zT.ishl dX1_served_58 (by first | assumption | exact zq_i _ | exact zand_i _ _ | exact zor_i _ _ | exact zxor_i _ _ | exact zN _ | omega) (by first | assumption | exact zq_i _ | exact zand_i _ _ | exact zor_i _ _ | exact zxor_i _ _ | exact zN _ | omega) ?_
        refine zT.iconst dX1_served_59 ?_
        refine zT.isub dX1_served_60 ?_
        show zT G _ _ _ _ [zI (sAl (aK (A 0 1023) (A 2)))] _ _ _ _ _ _
        refine zT.istore 4 dX1_served_61 (by decide) (zpre1 rfl (zcI _)) ?_
        show zT G _ _ _ [zR x, zI u, zI E, zI ((aK (A 0 1023) (A 2)) 6), zI (sAl (aK (A 0 1023) (A 2))), zU, zU, zU, zU, zU] _ _ _ _ _ _ _
        refine zT.iconst dX1_served_63 ?_
        refine zT.istore 5 dX1_served_64 (by decide) (zpre1 rfl (zcI _)) ?_
        show zT G _ _ _ [zR x, zI u, zI E, zI ((aK (A 0 1023) (A 2)) 6), zI (sAl (aK (A 0 1023) (A 2))), zI 0, zU, zU, zU, zU] _ _ _ _ _ _ _
        have L66 : ∀ (N : Nat) (mA : zMm) (t : Int), (zHs x M m mA) → (mA x 30 = M) → (0 ≤ t) → (t ≤ (sAl (aK (A 0 1023) (A 2))) + 1) → (∀ w, 0 ≤ w → w < t → mA M (256 * E + w) = 0) → (((sAl (aK (A 0 1023) (A 2))) + 1 - t).toNat) < N → zT G mX1_served 4 66 [zR x, zI u, zI E, zI ((aK (A 0 1023) (A 2)) 6), zI (sAl (aK (A 0 1023) (A 2))), zI t, zU, zU, zU, zU] [] SA mA 0 0 Q9 zNX := by
          intro N
          induction N with
          | zero => intro mA t hz h30 t0 t1 hT hN; exact absurd hN (Nat.not_lt_zero _)
          | succ N ih66 =>
            intro mA t hz h30 t0 t1 hT hN
            refine zT.iload 5 dX1_served_66 rfl ?_
            refine zT.iload 4 dX1_served_68 rfl ?_
            refine zT.ic_gt (tgt := 93) dX1_served_70 (by decide) (by first | assumption | exact zq_i _ | exact zand_i _ _ | exact zor_i _ _ | exact zxor_i _ _ | exact zN _ | omega) (by first | assumption | exact zq_i _ | exact zand_i _ _ | exact zor_i _ _ | exact zxor_i _ _ | exact zN _ | omega) (fun c70 => ?_) (fun c70 => ?_)
            · refine zT.iload_n 2 dX1_served_93 rfl rfl ?_
              refine zT.iconst dX1_served_94 ?_
              refine zT.isub dX1_served_95 ?_
              refine zT.istore 5 dX1_served_96 (by decide) (zpre1 rfl (zcI _)) ?_
              show zT G _ _ _ [zR x, zI u, zI E, zI ((aK (A 0 1023) (A 2)) 6), zI (sAl (aK (A 0 1023) (A 2))), zI (E - 1), zU, zU, zU, zU] _ _ _ _ _ _ _
              have L98 : ∀ (N : Nat) (mA : zMm) (e : Int), (zHs x M m mA) → (mA x 30 = M) → (-1 ≤ e) → (e < E) → (∀ r w, e < r → r ≤ E → 0 ≤ w → w ≤ (sAl (aK (A 0 1023) (A 2))) → mA M (256 * r + w) = sTb (aK (A 0 1023) (A 2)) u E (E - r).toNat w) → ((e + 1).toNat) < N → zT G mX1_served 4 98 [zR x, zI u, zI E, zI ((aK (A 0 1023) (A 2)) 6), zI (sAl (aK (A 0 1023) (A 2))), zI e, zU, zU, zU, zU] [] SA mA 0 0 Q9 zNX := by
                intro N
                induction N with
                | zero => intro mA e hz h30 e0 e1 ht hN; exact absurd hN (Nat.not_lt_zero _)
                | succ N ih98 =>
                  intro mA e hz h30 e0 e1 ht hN
                  refine zT.iload 5 dX1_served_98 rfl ?_
                  refine zT.if_lt (tgt := 232) dX1_served_100 (by decide) (by first | assumption | exact zq_i _ | exact zand_i _ _ | exact zor_i _ _ | exact zxor_i _ _ | exact zN _ | omega) (fun c100 => ?_) (fun c100 => ?_)
                  · refine zT.aload_n 0 dX1_served_232 rfl rfl ?_
                    refine zT.iload_n 3 dX1_served_233 rfl rfl ?_
                    refine zT.putI dX1_served_234 fX1_159 zs_32 rfl (zPan.k (hR.sh.gr hg)) (j := 32) (by decide) rfl (by first | assumption | exact zq_i _ | exact zand_i _ _ | exact zor_i _ _ | exact zxor_i _ _ | exact zN _ | omega) ?_
                    obtain ⟨m1, em1⟩ : ∃ z, z = zup mA x 32 ((aK (A 0 1023) (A 2)) 6) := ⟨_, rfl⟩
                    rw [← em1]
                    refine zT.iconst dX1_served_237 ?_
                    refine zT.istore 5 dX1_served_238 (by decide) (zpre1 rfl (zcI _)) ?_
                    show zT G _ _ _ [zR x, zI u, zI E, zI ((aK (A 0 1023) (A 2)) 6), zI (sAl (aK (A 0 1023) (A 2))), zI 0, zU, zU, zU, zU] _ _ _ _ _ _ _
                    have L240 : ∀ (N : Nat) (mA : zMm) (g : Int), (zHs x M m mA) → (mA x 30 = M) → (∀ r w, 0 ≤ r → r ≤ E → 0 ≤ w → w ≤ (sAl (aK (A 0 1023) (A 2))) → mA M (256 * r + w) = sTb (aK (A 0 1023) (A 2)) u E (E - r).toNat w) → (mA x 32 = ((aK (A 0 1023) (A 2)) 6)) → (0 ≤ g) → (g ≤ 8) → (∀ j, 0 ≤ j → j < g → mA (x + 45) j = -1) → ((8 - g).toNat) < N → zT G mX1_served 4 240 [zR x, zI u, zI E, zI ((aK (A 0 1023) (A 2)) 6), zI (sAl (aK (A 0 1023) (A 2))), zI g, zU, zU, zU, zU] [] SA mA 0 0 Q9 zNX := by
                      intro N
                      induction N with
                      | zero => intro mA g hz h30 ht h32 g0 g1 hs hN; exact absurd hN (Nat.not_lt_zero _)
                      | succ N ih240 =>
                        intro mA g hz h30 ht h32 g0 g1 hs hN
                        refine zT.iload 5 dX1_served_240 rfl ?_
                        refine zT.bipush dX1_served_242 ?_
                        refine zT.ic_ge (tgt := 261) dX1_served_244 (by decide) (by first | assumption | exact zq_i _ | exact zand_i _ _ | exact zor_i _ _ | exact zxor_i _ _ | exact zN _ | omega) (by first | assumption | exact zq_i _ | exact zand_i _ _ | exact zor_i _ _ | exact zxor_i _ _ | exact zN _ | omega) (fun c244 => ?_) (fun c244 => ?_)
                        · refine zT.iconst dX1_served_261 ?_
                          refine zT.istore 5 dX1_served_262 (by decide) (zpre1 rfl (zcI _)) ?_
                          show zT G _ _ _ [zR x, zI u, zI E, zI ((aK (A 0 1023) (A 2)) 6), zI (sAl (aK (A 0 1023) (A 2))), zI 0, zU, zU, zU, zU] _ _ _ _ _ _ _
                          refine zT.iconst dX1_served_264 ?_
                          refine zT.istore 6 dX1_served_265 (by decide) (zpre1 rfl (zcI _)) ?_
                          show zT G _ _ _ [zR x, zI u, zI E, zI ((aK (A 0 1023) (A 2)) 6), zI (sAl (aK (A 0 1023) (A 2))), zI 0, zI 0, zU, zU, zU] _ _ _ _ _ _ _
                          have L267 : ∀ (N : Nat) (mA : zMm) (h : Int) (e : Int), (zHs x M m mA) → (mA x 30 = M) → (∀ r w, 0 ≤ r → r ≤ E → 0 ≤ w → w ≤ (sAl (aK (A 0 1023) (A 2))) → mA M (256 * r + w) = sTb (aK (A 0 1023) (A 2)) u E (E - r).toNat w) → (mA x 32 = ((aK (A 0 1023) (A 2)) 6)) → (0 ≤ e) → (e ≤ E) → (h = sHd (aK (A 0 1023) (A 2)) u E e.toNat) → (∀ g, 0 ≤ g → g < ((aK (A 0 1023) (A 2)) 6) → mA (x + 45) g = sAt (aK (A 0 1023) (A 2)) u E g e.toNat) → ((E - e).toNat) < N → zT G mX1_served 4 267 [zR x, zI u, zI E, zI ((aK (A 0 1023) (A 2)) 6), zI (sAl (aK (A 0 1023) (A 2))), zI h, zI e, zU, zU, zU] [] SA mA 0 0 Q9 zNX := by
                            intro N
                            induction N with
                            | zero => intro mA h e hz h30 ht h32 e0 e1 hh hs hN; exact absurd hN (Nat.not_lt_zero _)
                            | succ N ih267 =>
                              intro mA h e hz h30 ht h32 e0 e1 hh hs hN
                              have hhb := sHd_b (u := u) (E := E) hk e.toNat (by omega)
                              rw [← hh] at hhb
                              refine zT.iload 6 dX1_served_267 rfl ?_
                              refine zT.iload_n 2 dX1_served_269 rfl rfl ?_
                              refine zT.ic_ge (tgt := 406) dX1_served_270 (by decide) (by first | assumption | exact zq_i _ | exact zand_i _ _ | exact zor_i _ _ | exact zxor_i _ _ | exact zN _ | omega) (by first | assumption | exact zq_i _ | exact zand_i _ _ | exact zor_i _ _ | exact zxor_i _ _ | exact zN _ | omega) (fun c270 => ?_) (fun c270 => ?_)
                              · refine zT.aload_n 0 dX1_served_406 rfl rfl ?_
                                refine zT.getR dX1_served_407 fX1_153 rfl (zPan.k (hR.sh.gr hg)) (j := 30) (by decide) rfl ?_
                                rw [show mA x 30 = M from h30]
                                show zT G _ _ _ _ [zR M] _ _ _ _ _ _
                                refine zT.iconst dX1_served_410 ?_
                                refine zT.iald dX1_served_411 kM (by first | assumption | exact zq_i _ | exact zand_i _ _ | exact zor_i _ _ | exact zxor_i _ _ | exact zN _ | omega) (by rw [nM]; first | assumption | exact zq_i _ | exact zand_i _ _ | exact zor_i _ _ | exact zxor_i _ _ | exact zN _ | omega) (fun z411 => ?_)
                                refine zT.iret dX1_served_412 rfl ?_
                                rw [eQ9]
                                have he9 : e = E := by omega
                                rw [he9] at hs
                                have h9 := ht 0 0 (by omega) (by omega) (by omega) hA.1
                                rw [show (256 : Int) * 0 + 0 = 0 by omega, show (E - 0).toNat = E.toNat by rw [Int.sub_zero]] at h9
                                rw [if_pos (by omega), if_pos (by omega), ← hE0]
                                exact ⟨by rw [h9], hg, hR.serv hg hz hMo hMx kM ⟨e8, by omega, nM⟩ h30 (by omega) h32 hs, fun c c0 c1 j => hz _ _ (by omega) (by omega) (by omega)⟩
                              · have hpk := sPk_b (u := u) (E := E) (e := e) hk e0 (by omega) hhb.1 hhb.2
                                have hhs := fSu_al hk hhb.1 hhb.2
                                have hut := zmulb (a := u) (A := 40) (b := e + 1) (B := 341) (by omega) (by omega) (by omega) (by omega)
                                have hkrA : zKR SA mA (m x 7) (aK (A 0 1023) (A 2)) := hkr.fr hg (fun a a0 a1 j => hz _ _ (hKM a0 a1) (by omega) (by omega))
                                have h7A : mA x 7 = m x 7 := hz _ _ (by omega) (by omega) (by omega)
                                have hcu := ht e h e0 (by omega) hhb.1 hhb.2
                                refine zT.iconst dX1_served_273 ?_
                                refine zT.istore 7 dX1_served_274 (by decide) (zpre1 rfl (zcI _)) ?_
                                show zT G _ _ _ [zR x, zI u, zI E, zI ((aK (A 0 1023) (A 2)) 6), zI (sAl (aK (A 0 1023) (A 2))), zI h, zI e, zI 0, zU, zU] _ _ _ _ _ _ _
                                have L276 : ∀ (N : Nat) (o : Int), (0 ≤ o) → (o ≤ sPk (aK (A 0 1023) (A 2)) u E e h) → (∀ j, 0 ≤ j → j < o → ¬ sOk (aK (A 0 1023) (A 2)) u E e h j) → ((sPk (aK (A 0 1023) (A 2)) u E e h - o).toNat) < N → zT G mX1_served 4 276 [zR x, zI u, zI E, zI ((aK (A 0 1023) (A 2)) 6), zI (sAl (aK (A 0 1023) (A 2))), zI h, zI e, zI o, zU, zU] [] SA mA 0 0 Q9 zNX := by
                                  intro N
                                  induction N with
                                  | zero => intro o o0 o1 hq hN; exact absurd hN (Nat.not_lt_zero _)
                                  | succ N ih276 =>
                                    intro o o0 o1 hq hN
                                    have hpc := fPc_b (a := o)
                                    have hso := fSu_al hk o0 (show o ≤ (sAl (aK (A 0 1023) (A 2))) by omega)
                                    have hor := fOr hhb.1 (by omega) o0 (by omega) hA.1 (by omega) hhs hso
                                    have hnx9 := ht (e + 1) (zor h o)
                                    have hwb := fWs_b (o := o) (t := u * (e + 1)) hk (n := ((aK (A 0 1023) (A 2)) 6)) (by omega) (by omega)
                                    refine zT.iload 7 dX1_served_276 rfl ?_
                                    refine zT.iload 5 dX1_served_278 rfl ?_
                                    refine zT.iand dX1_served_280 ?_
                                    refine zT.if_ne (tgt := 349) dX1_served_281 (by decide) (by first | assumption | exact zq_i _ | exact zand_i _ _ | exact zor_i _ _ | exact zxor_i _ _ | exact zN _ | omega) (fun c281 => ?_) (fun c281 => ?_)
                                    · have hnk : ¬ sOk (aK (A 0 1023) (A 2)) u E e h o := fun z => by
                                                                              obtain ⟨z1, z2, z3⟩ := z
                                                                              first
                                                                                | exact absurd z1 (by assumption)
                                                                                | omega
                                                                                | (rw [← hnx8, ← hcu] at z3; exact absurd z3 (by assumption))
                                      have hno : o + 1 ≤ sPk (aK (A 0 1023) (A 2)) u E e h := by
                                                                              have hne : o ≠ sPk (aK (A 0 1023) (A 2)) u E e h := fun z => hnk (by rw [z]; exact hpk.2.2)
                                                                              omega
                                      have hnq := zal_s hq hnk
                                      refine zT.iinc 7 dX1_served_349 rfl (by decide) (zpre1 rfl (zcI _)) ?_
                                      show zT G _ _ _ [zR x, zI u, zI E, zI ((aK (A 0 1023) (A 2)) 6), zI (sAl (aK (A 0 1023) (A 2))), zI h, zI e, zI (o + 1), zU, zU] _ _ _ _ _ _ _
                                      refine zT.goto (tgt := 276) dX1_served_352 (by decide) ?_
                                      exact ih276 _ (by omega) (by exact hno) (by exact hnq) (by omega)
                                    · refine zT.iload 7 dX1_served_284 rfl ?_
                                      refine zT.callS (M' := mJ9_bitCount) [zI o] [] dX1_served_286 kX1_430 rfl rfl (C_J9_bitCount (by omega) (by omega)) (by decide) (k' := 0) (n' := 0) (by omega) (by omega) (by decide) (zdk (v := some (zI (fPc o))) ?_) (fun _ _ _ _ h => h.elim)
                                      show zT G _ _ _ _ [zI (fPc o)] _ _ _ _ _ _
                                      refine zT.aload_n 0 dX1_served_289 rfl rfl ?_
                                      refine zT.getR dX1_served_290 fX1_66 rfl (zPan.k (hR.sh.gr hg)) (j := 7) (by decide) rfl ?_
                                      have r290 : mA x 7 = m x 7 := by rw [hz _ _ (by first | exact hKM (by omega) (by omega) | omega) (by omega) (by omega)]
                                      rw [r290]
                                      refine zT.getI dX1_served_293 fX1_332 rfl (zKit.k (hR.ki.2.1.1.gr hg)) (j := 11) (by decide) rfl (fun z293 => ?_)
                                      have r293 : mA (m x 7) 211 = m (m x 7) 211 := by rw [hz _ _ (by first | exact hKM (by omega) (by omega) | omega) (by omega) (by omega)]
                                      rw [r293] at z293 ⊢
                                      refine zT.ic_gt (tgt := 349) dX1_served_296 (by decide) (by first | assumption | exact zq_i _ | exact zand_i _ _ | exact zor_i _ _ | exact zxor_i _ _ | exact zN _ | omega) (by first | assumption | exact zq_i _ | exact zand_i _ _ | exact zor_i _ _ | exact zxor_i _ _ | exact zN _ | omega) (fun c296 => ?_) (fun c296 => ?_)
                                      · have hnk : ¬ sOk (aK (A 0 1023) (A 2)) u E e h o := fun z => by
                                                                                  obtain ⟨z1, z2, z3⟩ := z
                                                                                  first
                                                                                    | exact absurd z1 (by assumption)
                                                                                    | omega
                                                                                    | (rw [← hnx8, ← hcu] at z3; exact absurd z3 (by assumption))
                                        have hno : o + 1 ≤ sPk (aK (A 0 1023) (A 2)) u E e h := by
                                                                                  have hne : o ≠ sPk (aK (A 0 1023) (A 2)) u E e h := fun z => hnk (by rw [z]; exact hpk.2.2)
                                                                                  omega
                                        have hnq := zal_s hq hnk
                                        refine zT.iinc 7 dX1_served_349 rfl (by decide) (zpre1 rfl (zcI _)) ?_
                                        show zT G _ _ _ [zR x, zI u, zI E, zI ((aK (A 0 1023) (A 2)) 6), zI (sAl (aK (A 0 1023) (A 2))), zI h, zI e, zI (o + 1), zU, zU] _ _ _ _ _ _ _
                                        refine zT.goto (tgt := 276) dX1_served_352 (by decide) ?_
                                        exact ih276 _ (by omega) (by exact hno) (by exact hnq) (by omega)
                                      · have hnx8 := hnx9 (by omega) (by omega) hor.1 hor.2.1
                                        have hnb := sTb_b (u := u) (E := E) hk (E - (e + 1)).toNat (zor h o) hor.1 (by omega) hor.2.2
                                        have hcb := sTb_b (u := u) (E := E) hk (E - e).toNat h hhb.1 (by omega) hhs
                                        rw [← hnx8] at hnb
                                        rw [← hcu] at hcb
                                        refine zT.aload_n 0 dX1_served_299 rfl rfl ?_
                                        refine zT.iload 7 dX1_served_300 rfl ?_
                                        refine zT.iload_n 1 dX1_served_302 rfl rfl ?_
                                        refine zT.iload 6 dX1_served_303 rfl ?_
                                        refine zT.iconst dX1_served_305 ?_
                                        refine zT.iadd dX1_served_306 ?_
                                        refine zT.imul dX1_served_307 ?_
                                        refine zT.iload_n 3 dX1_served_308 rfl rfl ?_
                                        refine zT.callV (M' := mX1_worthOf) (b := x) [zI o, zI (u * (e + 1)), zI ((aK (A 0 1023) (A 2)) 6)] [] dX1_served_309 kX1_435 rfl rfl (ci := 0) (r := (RX1, TX1, 42)) rfl (zPan.k (hR.sh.gr hg)) (C_X1_worthOf (p := m x 7) (hR.sh.gr hg) h7A hkrA hk (by omega) (by omega) (by omega)) (by decide) (k' := 0) (n' := 0) (by omega) (by omega) (by decide) (zdk (v := some (zI (fWs (aK (A 0 1023) (A 2)) o (u * (e + 1)) ((aK (A 0 1023) (A 2)) 6)))) ?_) (fun _ _ _ _ h => h.elim)
                                        show zT G _ _ _ _ [zI (fWs (aK (A 0 1023) (A 2)) o (u * (e + 1)) ((aK (A 0 1023) (A 2)) 6))] _ _ _ _ _ _
                                        refine zT.aload_n 0 dX1_served_312 rfl rfl ?_
                                        refine zT.getR dX1_served_313 fX1_153 rfl (zPan.k (hR.sh.gr hg)) (j := 30) (by decide) rfl ?_
                                        rw [show mA x 30 = M from h30]
                                        show zT G _ _ _ _ [zR M, zI (fWs (aK (A 0 1023) (A 2)) o (u * (e + 1)) ((aK (A 0 1023) (A 2)) 6))] _ _ _ _ _ _
                                        refine zT.sipush dX1_served_316 ?_
                                        refine zT.iload 6 dX1_served_319 rfl ?_
                                        refine zT.iconst dX1_served_321 ?_
                                        refine zT.iadd dX1_served_322 ?_
                                        refine zT.imul dX1_served_323 ?_
                                        refine zT.iload 5 dX1_served_324 rfl ?_
                                        refine zT.iload 7 dX1_served_326 rfl ?_
                                        refine zT.ior dX1_served_328 ?_
                                        refine zT.iadd dX1_served_329 ?_
                                        refine zT.iald dX1_served_330 kM (by first | assumption | exact zq_i _ | exact zand_i _ _ | exact zor_i _ _ | exact zxor_i _ _ | exact zN _ | omega) (by rw [nM]; first | assumption | exact zq_i _ | exact zand_i _ _ | exact zor_i _ _ | exact zxor_i _ _ | exact zN _ | omega) (fun z330 => ?_)
                                        refine zT.iadd dX1_served_331 ?_
                                        refine zT.aload_n 0 dX1_served_332 rfl rfl ?_
                                        refine zT.getR dX1_served_333 fX1_153 rfl (zPan.k (hR.sh.gr hg)) (j := 30) (by decide) rfl ?_
                                        rw [show mA x 30 = M from h30]
                                        show zT G _ _ _ _ [zR M, zI ((fWs (aK (A 0 1023) (A 2)) o (u * (e + 1)) ((aK (A 0 1023) (A 2)) 6)) + (mA M ((256 * (e + 1)) + (zor h o))))] _ _ _ _ _ _
                                        refine zT.sipush dX1_served_336 ?_
                                        refine zT.iload 6 dX1_served_339 rfl ?_
                                        refine zT.imul dX1_served_341 ?_
                                        refine zT.iload 5 dX1_served_342 rfl ?_
                                        refine zT.iadd dX1_served_344 ?_
                                        refine zT.iald dX1_served_345 kM (by first | assumption | exact zq_i _ | exact zand_i _ _ | exact zor_i _ _ | exact zxor_i _ _ | exact zN _ | omega) (by rw [nM]; first | assumption | exact zq_i _ | exact zand_i _ _ | exact zor_i _ _ | exact zxor_i _ _ | exact zN _ | omega) (fun z345 => ?_)
                                        refine zT.ic_eq (tgt := 355) dX1_served_346 (by decide) (by first | assumption | exact zq_i _ | exact zand_i _ _ | exact zor_i _ _ | exact zxor_i _ _ | exact zN _ | omega) (by first | assumption | exact zq_i _ | exact zand_i _ _ | exact zor_i _ _ | exact zxor_i _ _ | exact zN _ | omega) (fun c346 => ?_) (fun c346 => ?_)
                                        · have hok : sOk (aK (A 0 1023) (A 2)) u E e h o := ⟨by assumption, by omega, by rw [← hnx8, ← hcu]; assumption⟩
                                          have ho9 : o = sPk (aK (A 0 1023) (A 2)) u E e h := by unfold sPk; rw [zfi_t hq o0 (by omega) hok]
                                          have het : ((e.toNat : Nat) : Int) = e := by omega
                                          refine zT.iconst dX1_served_355 ?_
                                          refine zT.istore 8 dX1_served_356 (by decide) (zpre1 rfl (zcI _)) ?_
                                          show zT G _ _ _ [zR x, zI u, zI E, zI ((aK (A 0 1023) (A 2)) 6), zI (sAl (aK (A 0 1023) (A 2))), zI h, zI e, zI o, zI 0, zU] _ _ _ _ _ _ _
                                          have L358 : ∀ (N : Nat) (mB : zMm) (g : Int), (zHs x M m mB) → (mB x 30 = M) → (∀ r w, 0 ≤ r → r ≤ E → 0 ≤ w → w ≤ (sAl (aK (A 0 1023) (A 2))) → mB M (256 * r + w) = sTb (aK (A 0 1023) (A 2)) u E (E - r).toNat w) → (mB x 32 = ((aK (A 0 1023) (A 2)) 6)) → (0 ≤ g) → (g ≤ ((aK (A 0 1023) (A 2)) 6)) → (∀ j, 0 ≤ j → j < ((aK (A 0 1023) (A 2)) 6) → mB (x + 45) j = if j < g then sAt (aK (A 0 1023) (A 2)) u E j (e + 1).toNat else sAt (aK (A 0 1023) (A 2)) u E j e.toNat) → ((((aK (A 0 1023) (A 2)) 6) - g).toNat) < N → zT G mX1_served 4 358 [zR x, zI u, zI E, zI ((aK (A 0 1023) (A 2)) 6), zI (sAl (aK (A 0 1023) (A 2))), zI h, zI e, zI o, zI g, zU] [] SA mB 0 0 Q9 zNX := by
                                            intro N
                                            induction N with
                                            | zero => intro mB g hz h30 ht h32 g0 g1 hs hN; exact absurd hN (Nat.not_lt_zero _)
                                            | succ N ih358 =>
                                              intro mB g hz h30 ht h32 g0 g1 hs hN
                                              refine zT.iload 8 dX1_served_358 rfl ?_
                                              refine zT.iload_n 3 dX1_served_360 rfl rfl ?_
                                              refine zT.ic_ge (tgt := 393) dX1_served_361 (by decide) (by first | assumption | exact zq_i _ | exact zand_i _ _ | exact zor_i _ _ | exact zxor_i _ _ | exact zN _ | omega) (by first | assumption | exact zq_i _ | exact zand_i _ _ | exact zor_i _ _ | exact zxor_i _ _ | exact zN _ | omega) (fun c361 => ?_) (fun c361 => ?_)
                                              · refine zT.iload 5 dX1_served_393 rfl ?_
                                                refine zT.iload 7 dX1_served_395 rfl ?_
                                                refine zT.ior dX1_served_397 ?_
                                                refine zT.istore 5 dX1_served_398 (by decide) (zpre1 rfl (zcI _)) ?_
                                                show zT G _ _ _ [zR x, zI u, zI E, zI ((aK (A 0 1023) (A 2)) 6), zI (sAl (aK (A 0 1023) (A 2))), zI (zor h o), zI e, zI o, zI g, zU] _ _ _ _ _ _ _
                                                refine zT.iinc 6 dX1_served_400 rfl (by decide) (zpre1 rfl (zcI _)) ?_
                                                show zT G _ _ _ [zR x, zI u, zI E, zI ((aK (A 0 1023) (A 2)) 6), zI (sAl (aK (A 0 1023) (A 2))), zI (zor h o), zI (e + 1), zI o, zI g, zU] _ _ _ _ _ _ _
                                                refine zT.goto (tgt := 267) dX1_served_403 (by decide) ?_
                                                refine zT.loc (V' := [zR x, zI u, zI E, zI ((aK (A 0 1023) (A 2)) 6), zI (sAl (aK (A 0 1023) (A 2))), zI (zor h o), zI (e + 1), zU, zU, zU]) ?_ ⟨Or.inr rfl, Or.inr rfl, Or.inr rfl, Or.inr rfl, Or.inr rfl, Or.inr rfl, Or.inr rfl, Or.inl rfl, Or.inl rfl, Or.inr rfl, trivial⟩
                                                exact ih267 _ _ _ (by exact hz) (by exact h30) (by exact ht) (by exact h32) (by omega) (by omega) (by
                                                    rw [show (e + 1).toNat = e.toNat + 1 by omega]
                                                    show _ = zor (sHd (aK (A 0 1023) (A 2)) u E e.toNat) (sPk (aK (A 0 1023) (A 2)) u E ((e.toNat : Nat) : Int) (sHd (aK (A 0 1023) (A 2)) u E e.toNat))
                                                    rw [het, ← hh, ← ho9]) (by exact fun j a b => by rw [hs j a b, if_pos (by omega)]) (by omega)
                                              · refine zT.iload 7 dX1_served_364 rfl ?_
                                                refine zT.iload 8 dX1_served_366 rfl ?_
                                                refine zT.callS (M' := mX1_has) [zI o, zI g] [] dX1_served_368 kX1_424 rfl rfl (C_X1_has (by first | assumption | exact zq_i _ | exact zand_i _ _ | exact zor_i _ _ | exact zxor_i _ _ | exact zN _ | omega) (by first | assumption | exact zq_i _ | exact zand_i _ _ | exact zor_i _ _ | exact zxor_i _ _ | exact zN _ | omega) (by first | assumption | exact zq_i _ | exact zand_i _ _ | exact zor_i _ _ | exact zxor_i _ _ | exact zN _ | omega)) (by decide) (k' := 0) (n' := 0) (by omega) (by omega) (by decide) (zdk (v := some (zI (zq (zbit o g)))) ?_) (fun _ _ _ _ h => h.elim)
                                                show zT G _ _ _ _ [zI (zq (zbit o g))] _ _ _ _ _ _
                                                refine zT.if_eqB (tgt := 387) dX1_served_371 (by decide) (fun c371 => ?_) (fun c371 => ?_)
                                                · refine zT.iinc 8 dX1_served_387 rfl (by decide) (zpre1 rfl (zcI _)) ?_
                                                  show zT G _ _ _ [zR x, zI u, zI E, zI ((aK (A 0 1023) (A 2)) 6), zI (sAl (aK (A 0 1023) (A 2))), zI h, zI e, zI o, zI (g + 1), zU] _ _ _ _ _ _ _
                                                  refine zT.goto (tgt := 358) dX1_served_390 (by decide) ?_
                                                  exact ih358 _ _ (by exact hz) (by exact h30) (by exact ht) (by exact h32) (by omega) (by omega) (by
                                                      exact fun j j0 j1 => by
                                                        have e9 : sAt (aK (A 0 1023) (A 2)) u E g (e + 1).toNat = zite (zbit o g) (u * (e + 1)) (sAt (aK (A 0 1023) (A 2)) u E g e.toNat) := by
                                                          rw [show (e + 1).toNat = e.toNat + 1 by omega]
                                                          show zite (zbit (sPk (aK (A 0 1023) (A 2)) u E ((e.toNat : Nat) : Int) (sHd (aK (A 0 1023) (A 2)) u E e.toNat)) g) (u * (((e.toNat : Nat) : Int) + 1)) _ = _
                                                          rw [het, ← hh, ← ho9]
                                                        by_cases q : j = g
                                                        · rw [q, if_pos (by omega), e9, zite_f (by assumption), hs g g0 (by omega), if_neg (by omega)]
                                                        · rw [hs j j0 j1]
                                                          by_cases z : j < g
                                                          · rw [if_pos z, if_pos (by omega)]
                                                          · rw [if_neg z, if_neg (by omega)]) (by omega)
                                                · refine zT.aload_n 0 dX1_served_374 rfl rfl ?_
                                                  refine zT.getF dX1_served_375 fX1_156 rfl (zPan.k (hR.sh.gr hg)) (j := 31) (by decide) rfl (zPan.f31 (hR.sh.gr hg)) ?_
                                                  refine zT.iload 8 dX1_served_378 rfl ?_
                                                  refine zT.iload_n 1 dX1_served_380 rfl rfl ?_
                                                  refine zT.iload 6 dX1_served_381 rfl ?_
                                                  refine zT.iconst dX1_served_383 ?_
                                                  refine zT.iadd dX1_served_384 ?_
                                                  refine zT.imul dX1_served_385 ?_
                                                  refine zT.iast dX1_served_386 (zPan.a31 (hR.sh.gr hg)) (by first | assumption | exact zq_i _ | exact zand_i _ _ | exact zor_i _ _ | exact zxor_i _ _ | exact zN _ | omega) (by rw [(zPan.n31 (hR.sh.gr hg))]; first | assumption | exact zq_i _ | exact zand_i _ _ | exact zor_i _ _ | exact zxor_i _ _ | exact zN _ | omega) (by first | assumption | exact zq_i _ | exact zand_i _ _ | exact zor_i _ _ | exact zxor_i _ _ | exact zN _ | omega) ?_
                                                  obtain ⟨m2, em2⟩ : ∃ z, z = zup mB (x + 45) g (u * (e + 1)) := ⟨_, rfl⟩
                                                  rw [← em2]
                                                  refine zT.iinc 8 dX1_served_387 rfl (by decide) (zpre1 rfl (zcI _)) ?_
                                                  show zT G _ _ _ [zR x, zI u, zI E, zI ((aK (A 0 1023) (A 2)) 6), zI (sAl (aK (A 0 1023) (A 2))), zI h, zI e, zI o, zI (g + 1), zU] _ _ _ _ _ _ _
                                                  refine zT.goto (tgt := 358) dX1_served_390 (by decide) ?_
                                                  exact ih358 _ _ (by rw [em2]; exact hz.up (by omega)) (by rw [em2, zup_ne (by omega)]; exact h30) (by exact fun r w r0 r1 w0 w1 => by rw [em2, zup_ne (by omega)]; exact ht r w r0 r1 w0 w1) (by rw [em2, zup_ne (by omega)]; exact h32) (by omega) (by omega) (by
                                                      exact fun j j0 j1 => by
                                                        have e9 : sAt (aK (A 0 1023) (A 2)) u E g (e + 1).toNat = zite (zbit o g) (u * (e + 1)) (sAt (aK (A 0 1023) (A 2)) u E g e.toNat) := by
                                                          rw [show (e + 1).toNat = e.toNat + 1 by omega]
                                                          show zite (zbit (sPk (aK (A 0 1023) (A 2)) u E ((e.toNat : Nat) : Int) (sHd (aK (A 0 1023) (A 2)) u E e.toNat)) g) (u * (((e.toNat : Nat) : Int) + 1)) _ = _
                                                          rw [het, ← hh, ← ho9]
                                                        by_cases q : j = g
                                                        · rw [q, em2, zup_at, if_pos (by omega), e9, zite_t (by assumption)]
                                                        · rw [em2, zup_ne (by omega), hs j j0 j1]
                                                          by_cases z : j < g
                                                          · rw [if_pos z, if_pos (by omega)]
                                                          · rw [if_neg z, if_neg (by omega)]) (by omega)
                                          exact L358 _ _ _ (by exact hz) (by exact h30) (by exact ht) (by exact h32) (by first | assumption | exact zq_i _ | exact zand_i _ _ | exact zor_i _ _ | exact zxor_i _ _ | exact zN _ | omega) (by first | assumption | exact zq_i _ | exact zand_i _ _ | exact zor_i _ _ | exact zxor_i _ _ | exact zN _ | omega) (by exact fun j a b => by rw [if_neg (by omega)]; exact hs j a b) (Nat.lt_succ_self _)
                                        · have hnk : ¬ sOk (aK (A 0 1023) (A 2)) u E e h o := fun z => by
                                                                                      obtain ⟨z1, z2, z3⟩ := z
                                                                                      first
                                                                                        | exact absurd z1 (by assumption)
                                                                                        | omega
                                                                                        | (rw [← hnx8, ← hcu] at z3; exact absurd z3 (by assumption))
                                          have hno : o + 1 ≤ sPk (aK (A 0 1023) (A 2)) u E e h := by
                                                                                      have hne : o ≠ sPk (aK (A 0 1023) (A 2)) u E e h := fun z => hnk (by rw [z]; exact hpk.2.2)
                                                                                      omega
                                          have hnq := zal_s hq hnk
                                          refine zT.iinc 7 dX1_served_349 rfl (by decide) (zpre1 rfl (zcI _)) ?_
                                          show zT G _ _ _ [zR x, zI u, zI E, zI ((aK (A 0 1023) (A 2)) 6), zI (sAl (aK (A 0 1023) (A 2))), zI h, zI e, zI (o + 1), zU, zU] _ _ _ _ _ _ _
                                          refine zT.goto (tgt := 276) dX1_served_352 (by decide) ?_
                                          exact ih276 _ (by omega) (by exact hno) (by exact hnq) (by omega)
                                exact L276 _ _ (by first | assumption | exact zq_i _ | exact zand_i _ _ | exact zor_i _ _ | exact zxor_i _ _ | exact zN _ | omega) (by exact hpk.1) (by exact fun j a b => by omega) (Nat.lt_succ_self _)
                          exact L267 _ _ _ _ (by exact hz) (by exact h30) (by exact ht) (by exact h32) (by first | assumption | exact zq_i _ | exact zand_i _ _ | exact zor_i _ _ | exact zxor_i _ _ | exact zN _ | omega) (by first | assumption | exact zq_i _ | exact zand_i _ _ | exact zor_i _ _ | exact zxor_i _ _ | exact zN _ | omega) (by rfl) (by exact fun g a b => hs g a (by omega)) (Nat.lt_succ_self _)
                        · refine zT.aload_n 0 dX1_served_247 rfl rfl ?_
                          refine zT.getF dX1_served_248 fX1_156 rfl (zPan.k (hR.sh.gr hg)) (j := 31) (by decide) rfl (zPan.f31 (hR.sh.gr hg)) ?_
                          refine zT.iload 5 dX1_served_251 rfl ?_
                          refine zT.iconst dX1_served_253 ?_
                          refine zT.iast dX1_served_254 (zPan.a31 (hR.sh.gr hg)) (by first | assumption | exact zq_i _ | exact zand_i _ _ | exact zor_i _ _ | exact zxor_i _ _ | exact zN _ | omega) (by rw [(zPan.n31 (hR.sh.gr hg))]; first | assumption | exact zq_i _ | exact zand_i _ _ | exact zor_i _ _ | exact zxor_i _ _ | exact zN _ | omega) (by first | assumption | exact zq_i _ | exact zand_i _ _ | exact zor_i _ _ | exact zxor_i _ _ | exact zN _ | omega) ?_
                          obtain ⟨m3, em3⟩ : ∃ z, z = zup mA (x + 45) g (-1) := ⟨_, rfl⟩
                          rw [← em3]
                          refine zT.iinc 5 dX1_served_255 rfl (by decide) (zpre1 rfl (zcI _)) ?_
                          show zT G _ _ _ [zR x, zI u, zI E, zI ((aK (A 0 1023) (A 2)) 6), zI (sAl (aK (A 0 1023) (A 2))), zI (g + 1), zU, zU, zU, zU] _ _ _ _ _ _ _
                          refine zT.goto (tgt := 240) dX1_served_258 (by decide) ?_
                          exact ih240 _ _ (by rw [em3]; exact hz.up (by omega)) (by rw [em3, zup_ne (by omega)]; exact h30) (by exact fun r w r0 r1 w0 w1 => by rw [em3, zup_ne (by omega)]; exact ht r w r0 r1 w0 w1) (by rw [em3, zup_ne (by omega)]; exact h32) (by omega) (by omega) (by
                              exact fun j j0 j1 => by
                                by_cases q : j = g
                                · rw [q, em3, zup_at]
                                · rw [em3, zup_ne (by omega)]; exact hs j j0 (by omega)) (by omega)
                    exact L240 _ _ _ (by rw [em1]; exact hz.up (by omega)) (by rw [em1, zup_ne (by omega)]; exact h30) (by exact fun r w r0 r1 w0 w1 => by rw [em1, zup_ne (by omega)]; exact ht r w (by omega) r1 w0 w1) (by rw [em1, zup_at]) (by first | assumption | exact zq_i _ | exact zand_i _ _ | exact zor_i _ _ | exact zxor_i _ _ | exact zN _ | omega) (by first | assumption | exact zq_i _ | exact zand_i _ _ | exact zor_i _ _ | exact zxor_i _ _ | exact zN _ | omega) (by exact fun j a b => by omega) (Nat.lt_succ_self _)
                  · refine zT.iconst dX1_served_103 ?_
                    refine zT.istore 6 dX1_served_104 (by decide) (zpre1 rfl (zcI _)) ?_
                    show zT G _ _ _ [zR x, zI u, zI E, zI ((aK (A 0 1023) (A 2)) 6), zI (sAl (aK (A 0 1023) (A 2))), zI e, zI 0, zU, zU, zU] _ _ _ _ _ _ _
                    have L106 : ∀ (N : Nat) (mB : zMm) (h : Int), (zHs x M m mB) → (mB x 30 = M) → (0 ≤ h) → (h ≤ (sAl (aK (A 0 1023) (A 2))) + 1) → (∀ r w, e < r → r ≤ E → 0 ≤ w → w ≤ (sAl (aK (A 0 1023) (A 2))) → mB M (256 * r + w) = sTb (aK (A 0 1023) (A 2)) u E (E - r).toNat w) → (∀ w, 0 ≤ w → w < h → mB M (256 * e + w) = sTb (aK (A 0 1023) (A 2)) u E (E - e).toNat w) → (((sAl (aK (A 0 1023) (A 2))) + 1 - h).toNat) < N → zT G mX1_served 4 106 [zR x, zI u, zI E, zI ((aK (A 0 1023) (A 2)) 6), zI (sAl (aK (A 0 1023) (A 2))), zI e, zI h, zU, zU, zU] [] SA mB 0 0 Q9 zNX := by
                      intro N
                      induction N with
                      | zero => intro mB h hz h30 h0 h1 ht hu hN; exact absurd hN (Nat.not_lt_zero _)
                      | succ N ih106 =>
                        intro mB h hz h30 h0 h1 ht hu hN
                        refine zT.iload 6 dX1_served_106 rfl ?_
                        refine zT.iload 4 dX1_served_108 rfl ?_
                        refine zT.ic_gt (tgt := 226) dX1_served_110 (by decide) (by first | assumption | exact zq_i _ | exact zand_i _ _ | exact zor_i _ _ | exact zxor_i _ _ | exact zN _ | omega) (by first | assumption | exact zq_i _ | exact zand_i _ _ | exact zor_i _ _ | exact zxor_i _ _ | exact zN _ | omega) (fun c110 => ?_) (fun c110 => ?_)
                        · refine zT.iinc 5 dX1_served_226 rfl (by decide) (zpre1 rfl (zcI _)) ?_
                          show zT G _ _ _ [zR x, zI u, zI E, zI ((aK (A 0 1023) (A 2)) 6), zI (sAl (aK (A 0 1023) (A 2))), zI (e + (-1)), zI h, zU, zU, zU] _ _ _ _ _ _ _
                          refine zT.goto (tgt := 98) dX1_served_229 (by decide) ?_
                          refine zT.loc (V' := [zR x, zI u, zI E, zI ((aK (A 0 1023) (A 2)) 6), zI (sAl (aK (A 0 1023) (A 2))), zI (e + (-1)), zU, zU, zU, zU]) ?_ ⟨Or.inr rfl, Or.inr rfl, Or.inr rfl, Or.inr rfl, Or.inr rfl, Or.inr rfl, Or.inl rfl, Or.inr rfl, Or.inr rfl, Or.inr rfl, trivial⟩
                          exact ih98 _ _ (by exact hz) (by exact h30) (by omega) (by omega) (by
                              exact fun r w r0 r1 w0 w1 => by
                                by_cases q : r = e
                                · rw [q]; exact hu w w0 (by omega)
                                · exact ht r w (by omega) r1 w0 w1) (by omega)
                        · obtain ⟨j, hj⟩ : ∃ j : Nat, (E - e).toNat = j + 1 := ⟨(E - e).toNat - 1, by omega⟩
                          have ej : (E - (e + 1)).toNat = j := by omega
                          have ee : E - (j : Int) = e + 1 := by omega
                          have hhs := fSu_al hk h0 (show h ≤ (sAl (aK (A 0 1023) (A 2))) by omega)
                          have hfr := fFr (s := h) (g := (sAl (aK (A 0 1023) (A 2)))) h0 (by omega) hA.1 (by omega)
                          obtain ⟨fr, hfr0⟩ : ∃ z, z = zand (sAl (aK (A 0 1023) (A 2))) (zxor h (-1)) := ⟨_, rfl⟩
                          rw [← hfr0] at hfr
                          have hff : fSu fr fr := by unfold fSu; obtain ⟨z, hz9⟩ := Int.eq_ofNat_of_zero_le hfr.1; rw [hz9, zand_nat (by omega) (by omega), Nat.and_self]
                          have hRb := sTb_b (u := u) (E := E) hk (j + 1) h h0 (by omega) hhs
                          obtain ⟨R, hR9⟩ : ∃ z, z = sTb (aK (A 0 1023) (A 2)) u E (j + 1) h := ⟨_, rfl⟩
                          rw [← hR9] at hRb
                          have hR8 : sCh (fun o => fWs (aK (A 0 1023) (A 2)) o (u * (E - (j : Int))) ((aK (A 0 1023) (A 2)) 6) + sTb (aK (A 0 1023) (A 2)) u E j (zor h o)) ((aK (A 0 1023) (A 2)) 0) fr 1024 fr 0 = R := by rw [hR9, hfr0]; rfl
                          have hut := zmulb (a := u) (A := 40) (b := e + 1) (B := 341) (by omega) (by omega) (by omega) (by omega)
                          have hkrB : zKR SA mB (m x 7) (aK (A 0 1023) (A 2)) := hkr.fr hg (fun a a0 a1 j => hz _ _ (hKM a0 a1) (by omega) (by omega))
                          have h7B : mB x 7 = m x 7 := hz _ _ (by omega) (by omega) (by omega)
                          refine zT.iconst dX1_served_113 ?_
                          refine zT.istore 7 dX1_served_114 (by decide) (zpre1 rfl (zcI _)) ?_
                          show zT G _ _ _ [zR x, zI u, zI E, zI ((aK (A 0 1023) (A 2)) 6), zI (sAl (aK (A 0 1023) (A 2))), zI e, zI h, zI 0, zU, zU] _ _ _ _ _ _ _
                          refine zT.iload 4 dX1_served_116 rfl ?_
                          refine zT.iload 6 dX1_served_118 rfl ?_
                          refine zT.iconst dX1_served_120 ?_
                          refine zT.ixor dX1_served_121 ?_
                          refine zT.iand dX1_served_122 ?_
                          rw [← hfr0]
                          show zT G _ _ _ _ [zI fr] _ _ _ _ _ _
                          refine zT.istore 8 dX1_served_123 (by decide) (zpre1 rfl (zcI _)) ?_
                          show zT G _ _ _ [zR x, zI u, zI E, zI ((aK (A 0 1023) (A 2)) 6), zI (sAl (aK (A 0 1023) (A 2))), zI e, zI h, zI 0, zI fr, zU] _ _ _ _ _ _ _
                          refine zT.iload 8 dX1_served_125 rfl ?_
                          refine zT.istore 9 dX1_served_127 (by decide) (zpre1 rfl (zcI _)) ?_
                          show zT G _ _ _ [zR x, zI u, zI E, zI ((aK (A 0 1023) (A 2)) 6), zI (sAl (aK (A 0 1023) (A 2))), zI e, zI h, zI 0, zI fr, zI fr] _ _ _ _ _ _ _
                          have L129 : ∀ (N : Nat) (o : Int) (a : Int) (q : Nat), (0 ≤ o ∧ o < 1024) → (fSu o fr) → (o < q) → (0 ≤ a) → (sCh (fun o => fWs (aK (A 0 1023) (A 2)) o (u * (E - (j : Int))) ((aK (A 0 1023) (A 2)) 6) + sTb (aK (A 0 1023) (A 2)) u E j (zor h o)) ((aK (A 0 1023) (A 2)) 0) fr q o a = R) → o.toNat < N → zT G mX1_served 4 129 [zR x, zI u, zI E, zI ((aK (A 0 1023) (A 2)) 6), zI (sAl (aK (A 0 1023) (A 2))), zI e, zI h, zI a, zI fr, zI o] [] SA mB 0 0 Q9 zNX := by
                            intro N
                            induction N with
                            | zero => intro o a q o0 hof hoq a0 hT hN; exact absurd hN (Nat.not_lt_zero _)
                            | succ N ih129 =>
                              intro o a q o0 hof hoq a0 hT hN
                              have hpc := fPc_b (a := o)
                              have haR := (sCh_x (v := (fun o => fWs (aK (A 0 1023) (A 2)) o (u * (E - (j : Int))) ((aK (A 0 1023) (A 2)) 6) + sTb (aK (A 0 1023) (A 2)) u E j (zor h o))) (p := (aK (A 0 1023) (A 2)) 0) hfr.1 hfr.2.1 q o a o0.1 o0.2 hof).2
                              rw [hT] at haR
                              have hsu := fSu_tr o0.1 o0.2 hfr.1 hfr.2.1 hA.1 (by omega) hof hfr.2.2
                              have hor := fOr h0 (by omega) o0.1 o0.2 hA.1 (by omega) hhs hsu
                              have hnx9 := ht (e + 1) (zor h o) (by omega) (by omega) hor.1 hor.2.1
                              rw [ej] at hnx9
                              have hnb := sTb_b (u := u) (E := E) hk j (zor h o) hor.1 (by omega) hor.2.2
                              have hwb := fWs_b (o := o) (t := u * (e + 1)) hk (n := ((aK (A 0 1023) (A 2)) 6)) (by omega) (by omega)
                              have hjb : (j : Int) ≤ 341 := by omega
                              obtain ⟨q, rfl⟩ : ∃ z, q = z + 1 := ⟨q - 1, by omega⟩
                              refine zT.iload 9 dX1_served_129 rfl ?_
                              refine zT.callS (M' := mJ9_bitCount) [zI o] [] dX1_served_131 kX1_430 rfl rfl (C_J9_bitCount (by omega) (by omega)) (by decide) (k' := 0) (n' := 0) (by omega) (by omega) (by decide) (zdk (v := some (zI (fPc o))) ?_) (fun _ _ _ _ h => h.elim)
                              show zT G _ _ _ _ [zI (fPc o)] _ _ _ _ _ _
                              refine zT.aload_n 0 dX1_served_134 rfl rfl ?_
                              refine zT.getR dX1_served_135 fX1_66 rfl (zPan.k (hR.sh.gr hg)) (j := 7) (by decide) rfl ?_
                              have r135 : mB x 7 = m x 7 := by rw [hz _ _ (by first | exact hKM (by omega) (by omega) | omega) (by omega) (by omega)]
                              rw [r135]
                              refine zT.getI dX1_served_138 fX1_332 rfl (zKit.k (hR.ki.2.1.1.gr hg)) (j := 11) (by decide) rfl (fun z138 => ?_)
                              have r138 : mB (m x 7) 211 = m (m x 7) 211 := by rw [hz _ _ (by first | exact hKM (by omega) (by omega) | omega) (by omega) (by omega)]
                              rw [r138] at z138 ⊢
                              refine zT.ic_gt (tgt := 184) dX1_served_141 (by decide) (by first | assumption | exact zq_i _ | exact zand_i _ _ | exact zor_i _ _ | exact zxor_i _ _ | exact zN _ | omega) (by first | assumption | exact zq_i _ | exact zand_i _ _ | exact zor_i _ _ | exact zxor_i _ _ | exact zN _ | omega) (fun c141 => ?_) (fun c141 => ?_)
                              · have hif : (if fPc o ≤ (aK (A 0 1023) (A 2)) 0 then max a ((fun o => fWs (aK (A 0 1023) (A 2)) o (u * (E - (j : Int))) ((aK (A 0 1023) (A 2)) 6) + sTb (aK (A 0 1023) (A 2)) u E j (zor h o)) o) else a) = a := if_neg (by omega)
                                refine zT.iload 9 dX1_served_184 rfl ?_
                                refine zT.if_ne (tgt := 192) dX1_served_186 (by decide) (by first | assumption | exact zq_i _ | exact zand_i _ _ | exact zor_i _ _ | exact zxor_i _ _ | exact zN _ | omega) (fun c186 => ?_) (fun c186 => ?_)
                                · rw [sCh_1 (by assumption), hif] at hT
                                  have hnx := fNx (o := o) (f := fr) (by omega) o0.2 hfr.1 hfr.2.1
                                  refine zT.iload 9 dX1_served_192 rfl ?_
                                  refine zT.iconst dX1_served_194 ?_
                                  refine zT.isub dX1_served_195 ?_
                                  refine zT.iload 8 dX1_served_196 rfl ?_
                                  refine zT.iand dX1_served_198 ?_
                                  refine zT.istore 9 dX1_served_199 (by decide) (zpre1 rfl (zcI _)) ?_
                                  show zT G _ _ _ [zR x, zI u, zI E, zI ((aK (A 0 1023) (A 2)) 6), zI (sAl (aK (A 0 1023) (A 2))), zI e, zI h, zI a, zI fr, zI (zand (o - 1) fr)] _ _ _ _ _ _ _
                                  refine zT.goto (tgt := 129) dX1_served_201 (by decide) ?_
                                  exact ih129 _ _ q (by omega) (by exact hnx.2.2) (by omega) (by omega) (by exact hT) (by omega)
                                · rw [sCh_0 (by assumption), hif] at hT
                                  have hT9 : a = sTb (aK (A 0 1023) (A 2)) u E (j + 1) h := by rw [hT, hR9]
                                  refine zT.goto (tgt := 204) dX1_served_189 (by decide) ?_
                                  refine zT.aload_n 0 dX1_served_204 rfl rfl ?_
                                  refine zT.getR dX1_served_205 fX1_153 rfl (zPan.k (hR.sh.gr hg)) (j := 30) (by decide) rfl ?_
                                  rw [show mB x 30 = M from h30]
                                  show zT G _ _ _ _ [zR M] _ _ _ _ _ _
                                  refine zT.sipush dX1_served_208 ?_
                                  refine zT.iload 5 dX1_served_211 rfl ?_
                                  refine zT.imul dX1_served_213 ?_
                                  refine zT.iload 6 dX1_served_214 rfl ?_
                                  refine zT.iadd dX1_served_216 ?_
                                  refine zT.iload 7 dX1_served_217 rfl ?_
                                  refine zT.iast dX1_served_219 kM (by first | assumption | exact zq_i _ | exact zand_i _ _ | exact zor_i _ _ | exact zxor_i _ _ | exact zN _ | omega) (by rw [nM]; first | assumption | exact zq_i _ | exact zand_i _ _ | exact zor_i _ _ | exact zxor_i _ _ | exact zN _ | omega) (by first | assumption | exact zq_i _ | exact zand_i _ _ | exact zor_i _ _ | exact zxor_i _ _ | exact zN _ | omega) ?_
                                  obtain ⟨m4, em4⟩ : ∃ z, z = zup mB M ((256 * e) + h) a := ⟨_, rfl⟩
                                  rw [← em4]
                                  refine zT.iinc 6 dX1_served_220 rfl (by decide) (zpre1 rfl (zcI _)) ?_
                                  show zT G _ _ _ [zR x, zI u, zI E, zI ((aK (A 0 1023) (A 2)) 6), zI (sAl (aK (A 0 1023) (A 2))), zI e, zI (h + 1), zI a, zI fr, zI o] _ _ _ _ _ _ _
                                  refine zT.goto (tgt := 106) dX1_served_223 (by decide) ?_
                                  refine zT.loc (V' := [zR x, zI u, zI E, zI ((aK (A 0 1023) (A 2)) 6), zI (sAl (aK (A 0 1023) (A 2))), zI e, zI (h + 1), zU, zU, zU]) ?_ ⟨Or.inr rfl, Or.inr rfl, Or.inr rfl, Or.inr rfl, Or.inr rfl, Or.inr rfl, Or.inr rfl, Or.inl rfl, Or.inl rfl, Or.inl rfl, trivial⟩
                                  exact ih106 _ _ (by rw [em4]; exact hz.up (by omega)) (by rw [em4, zup_ne (by omega)]; exact h30) (by omega) (by omega) (by exact fun r w r0 r1 w0 w1 => by rw [em4, zup_ne (by omega)]; exact ht r w r0 r1 w0 w1) (by
                                      exact fun w w0 w1 => by
                                        by_cases q : w = h
                                        · rw [q, em4, zup_at, hj]; exact hT9
                                        · rw [em4, zup_ne (by omega)]; exact hu w w0 (by omega)) (by omega)
                              · refine zT.iload 7 dX1_served_144 rfl ?_
                                refine zT.aload_n 0 dX1_served_146 rfl rfl ?_
                                refine zT.iload 9 dX1_served_147 rfl ?_
                                refine zT.iload_n 1 dX1_served_149 rfl rfl ?_
                                refine zT.iload 5 dX1_served_150 rfl ?_
                                refine zT.iconst dX1_served_152 ?_
                                refine zT.iadd dX1_served_153 ?_
                                refine zT.imul dX1_served_154 ?_
                                refine zT.iload_n 3 dX1_served_155 rfl rfl ?_
                                refine zT.callV (M' := mX1_worthOf) (b := x) [zI o, zI (u * (e + 1)), zI ((aK (A 0 1023) (A 2)) 6)] [zI a] dX1_served_156 kX1_435 rfl rfl (ci := 0) (r := (RX1, TX1, 42)) rfl (zPan.k (hR.sh.gr hg)) (C_X1_worthOf (p := m x 7) (hR.sh.gr hg) h7B hkrB hk (by omega) (by omega) (by omega)) (by decide) (k' := 0) (n' := 0) (by omega) (by omega) (by simp only [List.map, zcI, zcJ, zcR, List.sum_cons, List.sum_nil]; decide) (zdk (v := some (zI (fWs (aK (A 0 1023) (A 2)) o (u * (e + 1)) ((aK (A 0 1023) (A 2)) 6)))) ?_) (fun _ _ _ _ h => h.elim)
                                show zT G _ _ _ _ [zI (fWs (aK (A 0 1023) (A 2)) o (u * (e + 1)) ((aK (A 0 1023) (A 2)) 6)), zI a] _ _ _ _ _ _
                                refine zT.aload_n 0 dX1_served_159 rfl rfl ?_
                                refine zT.getR dX1_served_160 fX1_153 rfl (zPan.k (hR.sh.gr hg)) (j := 30) (by decide) rfl ?_
                                rw [show mB x 30 = M from h30]
                                show zT G _ _ _ _ [zR M, zI (fWs (aK (A 0 1023) (A 2)) o (u * (e + 1)) ((aK (A 0 1023) (A 2)) 6)), zI a] _ _ _ _ _ _
                                refine zT.sipush dX1_served_163 ?_
                                refine zT.iload 5 dX1_served_166 rfl ?_
                                refine zT.iconst dX1_served_168 ?_
                                refine zT.iadd dX1_served_169 ?_
                                refine zT.imul dX1_served_170 ?_
                                refine zT.iload 6 dX1_served_171 rfl ?_
                                refine zT.iload 9 dX1_served_173 rfl ?_
                                refine zT.ior dX1_served_175 ?_
                                refine zT.iadd dX1_served_176 ?_
                                refine zT.iald dX1_served_177 kM (by first | assumption | exact zq_i _ | exact zand_i _ _ | exact zor_i _ _ | exact zxor_i _ _ | exact zN _ | omega) (by rw [nM]; first | assumption | exact zq_i _ | exact zand_i _ _ | exact zor_i _ _ | exact zxor_i _ _ | exact zN _ | omega) (fun z177 => ?_)
                                rw [hnx9]
                                show zT G _ _ _ _ [zI (sTb (aK (A 0 1023) (A 2)) u E j (zor h o)), zI (fWs (aK (A 0 1023) (A 2)) o (u * (e + 1)) ((aK (A 0 1023) (A 2)) 6)), zI a] _ _ _ _ _ _
                                refine zT.iadd dX1_served_178 ?_
                                refine zT.mmax dX1_served_179 q1010 (by first | assumption | exact zq_i _ | exact zand_i _ _ | exact zor_i _ _ | exact zxor_i _ _ | exact zN _ | omega) (by first | assumption | exact zq_i _ | exact zand_i _ _ | exact zor_i _ _ | exact zxor_i _ _ | exact zN _ | omega) (by decide) (by decide) ?_
                                refine zT.istore 7 dX1_served_182 (by decide) (zpre1 rfl (zcI _)) ?_
                                show zT G _ _ _ [zR x, zI u, zI E, zI ((aK (A 0 1023) (A 2)) 6), zI (sAl (aK (A 0 1023) (A 2))), zI e, zI h, zI (max a ((fWs (aK (A 0 1023) (A 2)) o (u * (e + 1)) ((aK (A 0 1023) (A 2)) 6)) + (sTb (aK (A 0 1023) (A 2)) u E j (zor h o)))), zI fr, zI o] _ _ _ _ _ _ _
                                have hif : (if fPc o ≤ (aK (A 0 1023) (A 2)) 0 then max a ((fun o => fWs (aK (A 0 1023) (A 2)) o (u * (E - (j : Int))) ((aK (A 0 1023) (A 2)) 6) + sTb (aK (A 0 1023) (A 2)) u E j (zor h o)) o) else a) = max a ((fWs (aK (A 0 1023) (A 2)) o (u * (e + 1)) ((aK (A 0 1023) (A 2)) 6)) + (sTb (aK (A 0 1023) (A 2)) u E j (zor h o))) := by
                                                                  rw [if_pos (by omega)]
                                                                  show max a (fWs (aK (A 0 1023) (A 2)) o (u * (E - (j : Int))) ((aK (A 0 1023) (A 2)) 6) + sTb (aK (A 0 1023) (A 2)) u E j (zor h o)) = _
                                                                  rw [ee]
                                refine zT.iload 9 dX1_served_184 rfl ?_
                                refine zT.if_ne (tgt := 192) dX1_served_186 (by decide) (by first | assumption | exact zq_i _ | exact zand_i _ _ | exact zor_i _ _ | exact zxor_i _ _ | exact zN _ | omega) (fun c186 => ?_) (fun c186 => ?_)
                                · rw [sCh_1 (by assumption), hif] at hT
                                  have hnx := fNx (o := o) (f := fr) (by omega) o0.2 hfr.1 hfr.2.1
                                  refine zT.iload 9 dX1_served_192 rfl ?_
                                  refine zT.iconst dX1_served_194 ?_
                                  refine zT.isub dX1_served_195 ?_
                                  refine zT.iload 8 dX1_served_196 rfl ?_
                                  refine zT.iand dX1_served_198 ?_
                                  refine zT.istore 9 dX1_served_199 (by decide) (zpre1 rfl (zcI _)) ?_
                                  show zT G _ _ _ [zR x, zI u, zI E, zI ((aK (A 0 1023) (A 2)) 6), zI (sAl (aK (A 0 1023) (A 2))), zI e, zI h, zI (max a ((fWs (aK (A 0 1023) (A 2)) o (u * (e + 1)) ((aK (A 0 1023) (A 2)) 6)) + (sTb (aK (A 0 1023) (A 2)) u E j (zor h o)))), zI fr, zI (zand (o - 1) fr)] _ _ _ _ _ _ _
                                  refine zT.goto (tgt := 129) dX1_served_201 (by decide) ?_
                                  exact ih129 _ _ q (by omega) (by exact hnx.2.2) (by omega) (by omega) (by exact hT) (by omega)
                                · rw [sCh_0 (by assumption), hif] at hT
                                  have hT9 : max a ((fWs (aK (A 0 1023) (A 2)) o (u * (e + 1)) ((aK (A 0 1023) (A 2)) 6)) + (sTb (aK (A 0 1023) (A 2)) u E j (zor h o))) = sTb (aK (A 0 1023) (A 2)) u E (j + 1) h := by rw [hT, hR9]
                                  refine zT.goto (tgt := 204) dX1_served_189 (by decide) ?_
                                  refine zT.aload_n 0 dX1_served_204 rfl rfl ?_
                                  refine zT.getR dX1_served_205 fX1_153 rfl (zPan.k (hR.sh.gr hg)) (j := 30) (by decide) rfl ?_
                                  rw [show mB x 30 = M from h30]
                                  show zT G _ _ _ _ [zR M] _ _ _ _ _ _
                                  refine zT.sipush dX1_served_208 ?_
                                  refine zT.iload 5 dX1_served_211 rfl ?_
                                  refine zT.imul dX1_served_213 ?_
                                  refine zT.iload 6 dX1_served_214 rfl ?_
                                  refine zT.iadd dX1_served_216 ?_
                                  refine zT.iload 7 dX1_served_217 rfl ?_
                                  refine zT.iast dX1_served_219 kM (by first | assumption | exact zq_i _ | exact zand_i _ _ | exact zor_i _ _ | exact zxor_i _ _ | exact zN _ | omega) (by rw [nM]; first | assumption | exact zq_i _ | exact zand_i _ _ | exact zor_i _ _ | exact zxor_i _ _ | exact zN _ | omega) (by first | assumption | exact zq_i _ | exact zand_i _ _ | exact zor_i _ _ | exact zxor_i _ _ | exact zN _ | omega) ?_
                                  obtain ⟨m5, em5⟩ : ∃ z, z = zup mB M ((256 * e) + h) (max a ((fWs (aK (A 0 1023) (A 2)) o (u * (e + 1)) ((aK (A 0 1023) (A 2)) 6)) + (sTb (aK (A 0 1023) (A 2)) u E j (zor h o)))) := ⟨_, rfl⟩
                                  rw [← em5]
                                  refine zT.iinc 6 dX1_served_220 rfl (by decide) (zpre1 rfl (zcI _)) ?_
                                  show zT G _ _ _ [zR x, zI u, zI E, zI ((aK (A 0 1023) (A 2)) 6), zI (sAl (aK (A 0 1023) (A 2))), zI e, zI (h + 1), zI (max a ((fWs (aK (A 0 1023) (A 2)) o (u * (e + 1)) ((aK (A 0 1023) (A 2)) 6)) + (sTb (aK (A 0 1023) (A 2)) u E j (zor h o)))), zI fr, zI o] _ _ _ _ _ _ _
                                  refine zT.goto (tgt := 106) dX1_served_223 (by decide) ?_
                                  refine zT.loc (V' := [zR x, zI u, zI E, zI ((aK (A 0 1023) (A 2)) 6), zI (sAl (aK (A 0 1023) (A 2))), zI e, zI (h + 1), zU, zU, zU]) ?_ ⟨Or.inr rfl, Or.inr rfl, Or.inr rfl, Or.inr rfl, Or.inr rfl, Or.inr rfl, Or.inr rfl, Or.inl rfl, Or.inl rfl, Or.inl rfl, trivial⟩
                                  exact ih106 _ _ (by rw [em5]; exact hz.up (by omega)) (by rw [em5, zup_ne (by omega)]; exact h30) (by omega) (by omega) (by exact fun r w r0 r1 w0 w1 => by rw [em5, zup_ne (by omega)]; exact ht r w r0 r1 w0 w1) (by
                                      exact fun w w0 w1 => by
                                        by_cases q : w = h
                                        · rw [q, em5, zup_at, hj]; exact hT9
                                        · rw [em5, zup_ne (by omega)]; exact hu w w0 (by omega)) (by omega)
                          exact L129 _ _ _ 1024 (by exact ⟨hfr.1, hfr.2.1⟩) (by exact hff) (by omega) (by omega) (by exact hR8) (Nat.lt_succ_self _)
                    exact L106 _ _ _ (by exact hz) (by exact h30) (by first | assumption | exact zq_i _ | exact zand_i _ _ | exact zor_i _ _ | exact zxor_i _ _ | exact zN _ | omega) (by first | assumption | exact zq_i _ | exact zand_i _ _ | exact zor_i _ _ | exact zxor_i _ _ | exact zN _ | omega) (by exact ht) (by exact fun w a b => by omega) (Nat.lt_succ_self _)
              exact L98 _ _ _ (by exact hz) (by exact h30) (by omega) (by omega) (by
                  exact fun r w r0 r1 w0 w1 => by
                    obtain rfl : r = E := by omega
                    rw [show (r - r).toNat = 0 by omega]
                    exact hT w w0 (by omega)) (Nat.lt_succ_self _)
            · refine zT.aload_n 0 dX1_served_73 rfl rfl ?_
              refine zT.getR dX1_served_74 fX1_153 rfl (zPan.k (hR.sh.gr hg)) (j := 30) (by decide) rfl ?_
              rw [show mA x 30 = M from h30]
              show zT G _ _ _ _ [zR M] _ _ _ _ _ _
              refine zT.sipush dX1_served_77 ?_
              refine zT.iload_n 2 dX1_served_80 rfl rfl ?_
              refine zT.imul dX1_served_81 ?_
              refine zT.iload 5 dX1_served_82 rfl ?_
              refine zT.iadd dX1_served_84 ?_
              refine zT.iconst dX1_served_85 ?_
              refine zT.iast dX1_served_86 kM (by first | assumption | exact zq_i _ | exact zand_i _ _ | exact zor_i _ _ | exact zxor_i _ _ | exact zN _ | omega) (by rw [nM]; first | assumption | exact zq_i _ | exact zand_i _ _ | exact zor_i _ _ | exact zxor_i _ _ | exact zN _ | omega) (by first | assumption | exact zq_i _ | exact zand_i _ _ | exact zor_i _ _ | exact zxor_i _ _ | exact zN _ | omega) ?_
              obtain ⟨m6, em6⟩ : ∃ z, z = zup mA M ((256 * E) + t) 0 := ⟨_, rfl⟩
              rw [← em6]
              refine zT.iinc 5 dX1_served_87 rfl (by decide) (zpre1 rfl (zcI _)) ?_
              show zT G _ _ _ [zR x, zI u, zI E, zI ((aK (A 0 1023) (A 2)) 6), zI (sAl (aK (A 0 1023) (A 2))), zI (t + 1), zU, zU, zU, zU] _ _ _ _ _ _ _
              refine zT.goto (tgt := 66) dX1_served_90 (by decide) ?_
              exact ih66 _ _ (by rw [em6]; exact hz.up (by omega)) (by rw [em6, zup_ne (by omega)]; exact h30) (by omega) (by omega) (by
                  exact fun w w0 w1 => by
                    by_cases q : w = t
                    · rw [q, em6, zup_at]
                    · rw [em6, zup_ne (by omega)]; exact hT w w0 (by omega)) (by omega)
        exact L66 _ _ _ (by exact hz) (by exact h30) (by first | assumption | exact zq_i _ | exact zand_i _ _ | exact zor_i _ _ | exact zxor_i _ _ | exact zN _ | omega) (by first | assumption | exact zq_i _ | exact zand_i _ _ | exact zor_i _ _ | exact zxor_i _ _ | exact zN _ | omega) (by exact fun w a b => by omega) (Nat.lt_succ_self _)
    refine zT.aload_n 0 dX1_served_28 rfl rfl ?_
    refine zT.getR dX1_served_29 fX1_153 rfl (zPan.k hR.sh) (j := 30) (by decide) rfl ?_
    refine zT.alen dX1_served_32 (by rw [hmo1]; decide) ?_
    rw [hmo4]
    refine zT.len (a := m x 30) (by rw [hmo1]; decide) (fun hl0 hl1 => ?_)
    rw [hmo4] at hl0 hl1
    refine zT.iload_n 2 dX1_served_33 rfl rfl ?_
    refine zT.iconst dX1_served_34 ?_
    refine zT.iadd dX1_served_35 ?_
    refine zT.sipush dX1_served_36 ?_
    refine zT.imul dX1_served_39 ?_
    refine zT.ic_ge (tgt := 56) dX1_served_40 (by decide) (by first | assumption | exact zq_i _ | exact zand_i _ _ | exact zor_i _ _ | exact zxor_i _ _ | exact zN _ | omega) (by first | assumption | exact zq_i _ | exact zand_i _ _ | exact zor_i _ _ | exact zxor_i _ _ | exact zN _ | omega) (fun c40 => ?_) (fun c40 => ?_)
    · exact zT.room (L56 _ S m (m x 30) e9 (by exact zGr.rf) (by exact hmo1) (by exact hmo4) (by omega) (by rfl) (by
          rcases hmo2 with q | q
          · have h9 := hR.sh.n44
            rw [← q, hmo4] at h9
            omega
          · exact q) (by exact Or.inr ⟨hmo1, e9, by omega, hmo4⟩) (by exact fun _ _ _ _ _ => rfl) (Nat.lt_succ_self _)) (by omega) (by omega)
    · refine zT.aload_n 0 dX1_served_43 rfl rfl ?_
      refine zT.iload_n 2 dX1_served_44 rfl rfl ?_
      refine zT.iconst dX1_served_45 ?_
      refine zT.iadd dX1_served_46 ?_
      refine zT.sipush dX1_served_47 ?_
      refine zT.imul dX1_served_50 ?_
      refine zT.wfS (fun w51 => ?_)
      refine zT.wfX (fun u51 => ?_)
      refine zT.newa (κ := 101) dX1_served_51 rfl (by decide) q324 (by first | assumption | exact zq_i _ | exact zand_i _ _ | exact zor_i _ _ | exact zxor_i _ _ | exact zN _ | omega) (by first | assumption | exact zq_i _ | exact zand_i _ _ | exact zor_i _ _ | exact zxor_i _ _ | exact zN _ | omega) (k' := 0) (n' := 0) (by omega) (by omega) ?_
      obtain ⟨p51, ep51⟩ : ∃ z, z = zx S := ⟨_, rfl⟩
      rw [← ep51]
      obtain ⟨S7, eS7⟩ : ∃ z, z = zal S 101 ((E + 1) * 256) := ⟨_, rfl⟩
      rw [← eS7]
      have gS7 : zGr S S7 := by rw [eS7]; exact zGr.al (zfr0 w51)
      have kS7 : zk S7 p51 = 101 := by rw [eS7, zk_al, ep51, if_pos rfl]
      have nS7 : zn S7 p51 = (E + 1) * 256 := by rw [eS7, zn_al, ep51, if_pos rfl]
      have xS7 : zx S7 = p51 + 1 := by rw [eS7, zx_al, ep51]
      have zS7 : zk S p51 = 0 := by rw [ep51]; exact zfr0 w51
      obtain ⟨m8, em8⟩ : ∃ z, z = znw m 101 p51 := ⟨_, rfl⟩
      rw [← em8]
      refine zT.putR dX1_served_53 fX1_153 zs_30 rfl rfl (zPan.k (hR.sh.gr gS7)) (j := 30) (by decide) rfl ?_
      obtain ⟨m9, em9⟩ : ∃ z, z = zup m8 x 30 p51 := ⟨_, rfl⟩
      rw [← em9]
      exact zT.room (L56 _ S7 m9 p51 (E + 1) (by exact gS7) (by exact kS7) (by rw [nS7]; omega) (by exact Int.le_refl _) (by rw [em9]; exact zup_at) (by omega) (by exact Or.inl zS7) (by exact fun a j h1 h2 h3 => by rw [em9, zup_ne (by omega), em8, znw_ne h1]) (Nat.lt_succ_self _)) (by omega) (by omega)
  · refine zT.iconst dX1_served_10 ?_
    refine zT.iret dX1_served_11 rfl ?_
    rw [eQ9]
    rw [if_neg (by omega), if_neg (by omega)]
    exact ⟨rfl, zGr.rf, hR, zOut.rf⟩

