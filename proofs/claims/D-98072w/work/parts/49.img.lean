/-! PanSlices.image (written by gen/m_img.py) -/
theorem zCond_el {G : zG} {S : zS} {m : zMm} {s : State} {H : Heap} {y : Int} (a1 : zOK G) (a2 : (gs G).WarmedH s.vm) (a4 : zRep G S m H) (h : y < 0 ∨ (12 ≤ zk S y ∧ zk S y ≤ 16)) : zEl "PanSlices$Cond" s H y := by
  rcases h with h | h
  · exact Or.inl h
  · rcases (show zk S y = 12 ∨ zk S y = 13 ∨ zk S y = 14 ∨ zk S y = 15 ∨ zk S y = 16 by omega) with e | e | e | e | e
    · exact zEl.obj a1 a2 a4 (ci := 11) (r := (RX15, TX15, 1)) e rfl (Or.inr q2178)
    · exact zEl.obj a1 a2 a4 (ci := 12) (r := (RX16, TX16, 2)) e rfl (Or.inr q2179)
    · exact zEl.obj a1 a2 a4 (ci := 13) (r := (RX17, TX17, 3)) e rfl (Or.inr q2180)
    · exact zEl.obj a1 a2 a4 (ci := 14) (r := (RX18, TX18, 2)) e rfl (Or.inr q2181)
    · exact zEl.obj a1 a2 a4 (ci := 15) (r := (RX19, TX19, 2)) e rfl (Or.inr q2182)
theorem zSe.kd {S : zS} {m : zMm} {p c : Int} {R : Int → Int} (h : zSe S m p R c) : p < 0 ∨ (12 ≤ zk S p ∧ zk S p ≤ 16) := by
  rcases h with h | ⟨_, _, _, _, h⟩
  · omega
  · unfold zTr at h
    omega
theorem C_X1_image {G : zG}  {S : zS} {m : zMm} {x : Int} {A : zMm} (hR : rel S m x A) {k : Int} (hk1 : zi k) : zC G mX1_image 3 6 2006 [zR x, zI k] S m (zPo S m x (some (zI (if 0 ≤ k ∧ k ≤ 1 then 1 else 0))) (if 0 ≤ k ∧ k ≤ 1 then uImg (uLay A) k else uLay A)) zNX := by
  have hk := hR.vki.1
  have hKi := (hR.ki.2.1).ki hk
  have hKn := hKi.nu
  have hkr := hR.ki.2.1
  have hkf := hkr.2.1
  have hk0 := hk.1
  have hpl := hR.pl
  have hpv := hR.vpl
  have hPl := hpl.pl hpv
  have hPl0 := hPl.1
  have hPl1 := hPl.2.1
  have hgn := hpl.2.1
  have hwd := hR.wd.1
  have hL := hR.lay
  have hB : uLay A 0 1023 = 1 := uLay_bg hR.vbg
  have hpvL := hL.vpl
  have hpvL0 := hpvL.1
  have hpvL1 := hpvL.2.1
  have nn : ∀ i, 0 ≤ i → i < 2 → 0 ≤ m (x + 52) i → zPlan S (m (x + 52) i) ∧ x + 91 ≤ m (x + 52) i := fun i i0 i1 i2 => (hR.im.1 i i0 i1).elim (fun e => absurd i2 (by omega)) (fun e => ⟨e.2.2.1.1, e.2.1⟩)
  refine zC.of [zR x, zI k] (by decide) rfl (zEn1 (zcR _) (zEn1 (zcI _) (zEn0 (by simp)))) rfl ?_
  have L33 : ∀ (N : Nat) (p : Int) (SA : zS) (mA : zMm), (zGr S SA) → (zPlan SA p) → (x + 91 ≤ p) → (0 ≤ p) → (∀ a j, (a < x + 91 ∨ zk S a ≠ 0) → ¬ (a = x + 52 ∧ j = k) → mA a j = m a j) → (mA (x + 52) k = p) → (∀ i, 0 ≤ i → i < 2 → i ≠ k → m (x + 52) i ≠ p) → (∀ q, 0 ≤ q → q < 8 → m (x + 29) q ≠ p) → (0 ≤ k ∧ k < 2) → 0 < N → zT G mX1_image 3 33 [zR x, zI k] [] SA mA 0 0 (zPo S m x (some (zI (if 0 ≤ k ∧ k ≤ 1 then 1 else 0))) (if 0 ≤ k ∧ k ≤ 1 then uImg (uLay A) k else uLay A)) zNX := by
    intro N
    induction N with
    | zero => intro p SA mA hg hq hp hp0 hm1 h52 hn hu hk2 hN; exact absurd hN (Nat.not_lt_zero _)
    | succ N ih33 =>
      intro p SA mA hg hq hp hp0 hm1 h52 hn hu hk2 hN
      refine zT.aload_n 0 dX1_image_33 rfl rfl ?_
      refine zT.getF dX1_image_34 fX1_178 rfl (zPan.k (hR.sh.gr hg)) (j := 39) (by decide) rfl (zPan.f39 (hR.sh.gr hg)) ?_
      refine zT.iload_n 1 dX1_image_37 rfl rfl ?_
      refine zT.aload_n 0 dX1_image_38 rfl rfl ?_
      refine zT.getR dX1_image_39 fX1_66 rfl (zPan.k (hR.sh.gr hg)) (j := 7) (by decide) rfl ?_
      have r39 : mA x 7 = m x 7 := by rw [hm1 _ _ (Or.inl (by omega)) (by omega)]
      rw [r39]
      refine zT.aast dX1_image_42 (by rw [(zPan.a39 (hR.sh.gr hg))]; decide) (by first | assumption | exact zq_i _ | exact zand_i _ _ | exact zor_i _ _ | exact zxor_i _ _ | exact zN _ | omega) (by rw [(zPan.n39 (hR.sh.gr hg))]; first | assumption | exact zq_i _ | exact zand_i _ _ | exact zor_i _ _ | exact zxor_i _ _ | exact zN _ | omega) (Or.inr ⟨(hR.ki.2.1.1.gr hg).k, (rfl : zcl[2]? = some (RX3, TX3, 16)), by rw [(zPan.a39 (hR.sh.gr hg))]; exact Or.inl rfl⟩) ?_
      obtain ⟨m1, em1⟩ : ∃ z, z = zup mA (x + 51) k (m x 7) := ⟨_, rfl⟩
      rw [← em1]
      refine zT.aload_n 0 dX1_image_43 rfl rfl ?_
      refine zT.getF dX1_image_44 fX1_182 rfl (zPan.k (hR.sh.gr hg)) (j := 40) (by decide) rfl (zPan.f40 (hR.sh.gr hg)) ?_
      refine zT.iload_n 1 dX1_image_47 rfl rfl ?_
      refine zT.aald dX1_image_48 (by rw [(zPan.a40 (hR.sh.gr hg))]; decide) (by first | assumption | exact zq_i _ | exact zand_i _ _ | exact zor_i _ _ | exact zxor_i _ _ | exact zN _ | omega) (by rw [(zPan.n40 (hR.sh.gr hg))]; first | assumption | exact zq_i _ | exact zand_i _ _ | exact zor_i _ _ | exact zxor_i _ _ | exact zN _ | omega) ?_
      have r48 : m1 (x + 52) k = p := by rw [em1, zup_ne (by omega), h52]
      rw [r48]
      have hO49 : zPR SA m1 (x + 14) (uLay A 2 58) (aGo (uLay A 2) 58) := hL.pl.fr hg (fun a h1 h2 j => by
        rw [em1, zup_ne (by omega), hm1 _ _ (by first | exact Or.inl (by omega) | exact Or.inr (by assumption)) (by omega)])
      have hO1 := hO49.2.1
      refine zT.aload_n 0 dX1_image_49 rfl rfl ?_
      refine zT.getF dX1_image_50 fX1_73 rfl (zPan.k (hR.sh.gr hg)) (j := 8) (by decide) rfl (zPan.f8 (hR.sh.gr hg)) ?_
      refine zT.callV (M' := mX4_be) (b := p) [zR (x + 14)] [] dX1_image_53 kX1_273 rfl rfl (ci := 3) (r := (RX4, TX4, 6)) rfl (zPlan.k hq) (C_X4_be hq (zPan.o8 (hR.sh.gr hg)) (by omega) (by omega) (by omega) (by omega)) (by decide) (k' := 0) (n' := 0) (by omega) (by omega) (by decide) (zdk (v := none) ?_) (fun _ _ _ _ h => h.elim)
      show zT G _ _ _ _ [] _ _ _ _ _ _
      obtain ⟨m2, em2⟩ : ∃ z, z = zbe m1 p (x + 14) := ⟨_, rfl⟩
      rw [← em2]
      refine zT.aload_n 0 dX1_image_56 rfl rfl ?_
      refine zT.getF dX1_image_57 fX1_187 rfl (zPan.k (hR.sh.gr hg)) (j := 41) (by decide) rfl (zPan.f41 (hR.sh.gr hg)) ?_
      refine zT.iload_n 1 dX1_image_60 rfl rfl ?_
      refine zT.aload_n 0 dX1_image_61 rfl rfl ?_
      refine zT.getR dX1_image_62 fX1_218 rfl (zPan.k (hR.sh.gr hg)) (j := 38) (by decide) rfl ?_
      have r62 : m2 x 38 = m x 38 := by rw [em2, zbe_ne (by omega), em1, zup_ne (by omega), hm1 _ _ (Or.inl (by omega)) (by omega)]
      rw [r62]
      refine zT.aastE dX1_image_65 (by rw [(zPan.a41 (hR.sh.gr hg))]; decide) (by first | assumption | exact zq_i _ | exact zand_i _ _ | exact zor_i _ _ | exact zxor_i _ _ | exact zN _ | omega) (by rw [(zPan.n41 (hR.sh.gr hg))]; first | assumption | exact zq_i _ | exact zand_i _ _ | exact zor_i _ _ | exact zxor_i _ _ | exact zN _ | omega) (fun s H a1 a2 a3 a4 => by
        rw [(zPan.a41 (hR.sh.gr hg))]
        exact zCond_el a1 a2 a4 (by
          rcases zSe.kd hR.se with e | e
          · exact Or.inl e
          · refine Or.inr ?_
            rw [(hg.2.1 (m x 38) (by omega)).1]
            exact e)) ?_
      obtain ⟨m3, em3⟩ : ∃ z, z = zup m2 (x + 53) k (m x 38) := ⟨_, rfl⟩
      rw [← em3]
      refine zT.iconst dX1_image_66 ?_
      refine zT.zret dX1_image_67 rfl (by omega) ?_
      rw [if_pos (by omega), if_pos (by omega)]
      have hpp : zPR SA m3 p (uLay A 2 58) (aGo (uLay A 2) 58) := (zbe_pr hq hO49 (by omega)).fr zGr.rf (fun a a0 a1 j => by rw [em3, zup_ne (by omega), em2])
      refine ⟨rfl, hg, hL.img (p := p) hB hg (by omega) hp0 hp hpp ?_ ?_ ?_ ?_ ?_ hn hu, ?_⟩
      · intro i j i0 i1 hne
        rw [em3, zup_ne (by omega), em2, zbe_ne (by omega), em1, zup_ne (by omega), hm1 _ _ (by first | exact Or.inl (by omega) | exact Or.inr (by assumption)) (by omega)]
      · intro a a0 ha hap j
        rw [em3, zup_ne (by omega), em2, zbe_ne (by omega), em1, zup_ne (by omega), hm1 _ _ (by first | exact Or.inl (by omega) | exact Or.inr (by assumption)) (by omega)]
      · intro i i0 i1
        rw [em3, zup_ne (by omega), em2, zbe_ne (by omega), em1]
        by_cases e : i = k
        · rw [if_pos e, e, zup_at]
        · rw [if_neg e, zup_ne (by omega), hm1 _ _ (Or.inl (by omega)) (by omega)]
      · intro i i0 i1
        rw [em3, zup_ne (by omega), em2, zbe_ne (by omega), em1, zup_ne (by omega)]
        by_cases e : i = k
        · rw [if_pos e, e, h52]
        · rw [if_neg e, hm1 _ _ (Or.inl (by omega)) (by omega)]
      · intro i i0 i1
        rw [em3]
        by_cases e : i = k
        · rw [if_pos e, e, zup_at]
        · rw [if_neg e, zup_ne (by omega), em2, zbe_ne (by omega), em1, zup_ne (by omega), hm1 _ _ (Or.inl (by omega)) (by omega)]
      · intro a a0 a1 j
        rw [em3, zup_ne (by omega), em2, zbe_ne (by omega), em1, zup_ne (by omega), hm1 _ _ (by first | exact Or.inl (by omega) | exact Or.inr (by assumption)) (by omega)]
  refine zT.wfS (fun w0 => ?_)
  have hx9 := (w0 x (by rw [hR.sh.k]; omega)).1
  refine zT.iload_n 1 dX1_image_0 rfl rfl ?_
  refine zT.iconst dX1_image_1 ?_
  refine zT.iconst dX1_image_2 ?_
  refine zT.callS (M' := mX1_isIn) [zI k, zI 0, zI 1] [] dX1_image_3 kX1_231 rfl rfl (C_X1_isIn (by first | assumption | exact zq_i _ | exact zand_i _ _ | exact zor_i _ _ | exact zxor_i _ _ | exact zN _ | omega) (by first | assumption | exact zq_i _ | exact zand_i _ _ | exact zor_i _ _ | exact zxor_i _ _ | exact zN _ | omega) (by first | assumption | exact zq_i _ | exact zand_i _ _ | exact zor_i _ _ | exact zxor_i _ _ | exact zN _ | omega)) (by decide) (k' := 6) (n' := 2006) (by omega) (by omega) (by decide) (zdk (v := some (zI (zq (0 ≤ k ∧ k ≤ 1)))) ?_) (fun _ _ _ _ h => h.elim)
  show zT G _ _ _ _ [zI (zq (0 ≤ k ∧ k ≤ 1))] _ _ _ _ _ _
  refine zT.if_neB (tgt := 11) dX1_image_6 (by decide) (fun c6 => ?_) (fun c6 => ?_)
  · refine zT.aload_n 0 dX1_image_11 rfl rfl ?_
    refine zT.getF dX1_image_12 fX1_182 rfl (zPan.k hR.sh) (j := 40) (by decide) rfl (zPan.f40 hR.sh) ?_
    refine zT.iload_n 1 dX1_image_15 rfl rfl ?_
    refine zT.aald dX1_image_16 (by rw [(zPan.a40 hR.sh)]; decide) (by first | assumption | exact zq_i _ | exact zand_i _ _ | exact zor_i _ _ | exact zxor_i _ _ | exact zN _ | omega) (by rw [(zPan.n40 hR.sh)]; first | assumption | exact zq_i _ | exact zand_i _ _ | exact zor_i _ _ | exact zxor_i _ _ | exact zN _ | omega) ?_
    refine zT.ifnonnull (tgt := 33) dX1_image_17 (by decide) (fun c17 => ?_) (fun c17 => ?_)
    · exact zT.room (L33 _ (m (x + 52) k) S m (by exact zGr.rf) (by exact (nn k (by omega) (by omega) (by omega)).1) (by exact (nn k (by omega) (by omega) (by omega)).2) (by have := (nn k (by omega) (by omega) (by omega)).2; omega) (by exact fun _ _ _ _ => rfl) (by rfl) (by
          exact fun i i0 i1 i2 => by
            have q := hR.im.2.1
            have := (nn k (by omega) (by omega) (by omega)).2
            rcases (show (i = 0 ∧ k = 1) ∨ (i = 1 ∧ k = 0) by omega) with ⟨e, e2⟩ | ⟨e, e2⟩
            · subst e
              subst e2
              omega
            · subst e
              subst e2
              omega) (by
          exact fun q q0 q1 => by
            have := hR.im.2.2 q k q0 q1 (by omega) (by omega)
            have := (nn k (by omega) (by omega) (by omega)).2
            omega) (by omega) (Nat.lt_succ_self _)) (by omega) (by omega)
    · refine zT.aload_n 0 dX1_image_20 rfl rfl ?_
      refine zT.getF dX1_image_21 fX1_182 rfl (zPan.k hR.sh) (j := 40) (by decide) rfl (zPan.f40 hR.sh) ?_
      refine zT.iload_n 1 dX1_image_24 rfl rfl ?_
      refine zT.wfS (fun w25 => ?_)
      refine zT.wfX (fun u25 => ?_)
      refine zT.new (ci := 3) (r := (RX4, TX4, 6)) dX1_image_25 rfl q326 q327 q112 (k' := 5) (n' := 2000) (by omega) (by omega) ?_
      obtain ⟨p25, ep25⟩ : ∃ z, z = zx S := ⟨_, rfl⟩
      rw [← ep25]
      obtain ⟨S4, eS4⟩ : ∃ z, z = zal S 4 0 := ⟨_, rfl⟩
      rw [← eS4]
      have gS4 : zGr S S4 := by rw [eS4]; exact zGr.al (zfr0 w25)
      have kS4 : zk S4 p25 = 4 := by rw [eS4, zk_al, ep25, if_pos rfl]
      have xS4 : zx S4 = p25 + 1 := by rw [eS4, zx_al, ep25]
      have zS4 : zk S p25 = 0 := by rw [ep25]; exact zfr0 w25
      obtain ⟨m5, em5⟩ : ∃ z, z = znw m 4 p25 := ⟨_, rfl⟩
      rw [← em5]
      refine zT.dup dX1_image_28 (zcR _) ?_
      refine zT.callIN (M' := mX4_init) (b := p25) [] [zR p25, zI k, zR (x + 52)] dX1_image_29 kX1_72 rfl rfl (by omega) (C_X4_init kS4 xS4 (by omega)) (by decide) (k' := 0) (n' := 0) (by omega) (by omega) (by simp only [List.map, zcI, zcJ, zcR, List.sum_cons, List.sum_nil]; decide) (fun v29 S29_ m29_ h29 => ?_) (fun _ _ _ _ h => h.elim)
      obtain ⟨rfl, x29, hq29, gx29, f29⟩ := h29
      have gn29 : zGr S S29_ := zGx.gr gS4 zS4 gx29
      show zT G _ _ _ _ [zR p25, zI k, zR (x + 52)] _ _ _ _ _ _
      refine zT.aast dX1_image_32 (by rw [(zPan.a40 (hR.sh.gr gn29))]; decide) (by first | assumption | exact zq_i _ | exact zand_i _ _ | exact zor_i _ _ | exact zxor_i _ _ | exact zN _ | omega) (by rw [(zPan.n40 (hR.sh.gr gn29))]; first | assumption | exact zq_i _ | exact zand_i _ _ | exact zor_i _ _ | exact zxor_i _ _ | exact zN _ | omega) (Or.inr ⟨hq29.k, (rfl : zcl[3]? = some (RX4, TX4, 6)), by rw [(zPan.a40 (hR.sh.gr gn29))]; exact Or.inl rfl⟩) ?_
      obtain ⟨m6, em6⟩ : ∃ z, z = zup m29_ (x + 52) k p25 := ⟨_, rfl⟩
      rw [← em6]
      exact zT.room (L33 _ p25 S29_ m6 (by exact gn29) (by exact hq29) (by omega) (by omega) (by
          exact fun a j ha hne => by
            have q9 : a < p25 := by
              rcases ha with ha | ha
              · omega
              · have := w25 a ha
                omega
            rw [em6, zup_ne hne, f29 _ (by omega) _, em5, znw_ne (by omega)]) (by rw [em6, zup_at]) (by
          exact fun i i0 i1 i2 e => by
            rcases hR.im.1 i i0 i1 with z | z
            · omega
            · have := w25 (m (x + 52) i) (by rw [z.2.2.1.1.k]; omega)
              omega) (by
          exact fun q q0 q1 e => by
            rcases hR.un.2.1 q q0 q1 with z | ⟨z, z2⟩
            · omega
            · have := w25 (m (x + 29) q) (by rw [z2.k]; omega)
              omega) (by omega) (Nat.lt_succ_self _)) (by omega) (by omega)
  · refine zT.iconst dX1_image_9 ?_
    refine zT.zret dX1_image_10 rfl (by omega) ?_
    rw [if_neg (by omega), if_neg (by omega)]
    exact ⟨rfl, zGr.rf, hL, zOut.rf⟩

