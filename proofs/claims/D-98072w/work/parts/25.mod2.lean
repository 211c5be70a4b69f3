/-! PanSlicesModel against plain functions (written by gen/m_mod2.py) -/
theorem C_X13_wrong {G : zG} {S : zS} {m : zMm} {b : Int} (hb : zMod S b) {n : Int} {g : zGo} (hg : zMG m b n g) (hv : zGV n g) {K : Int → Int} (hK : zMK m b K) (hk : zKV K) {k t : Int} (k0 : 0 ≤ k) (k1 : k < n) (t0 : 0 ≤ t) (t1 : t ≤ 900) : zC G mX13_wrong 2 0 0 [zR b, zI k, zI t] S m (zDet (some (zI (aWhy K g k t))) S m) zNX := by
  have hr := zrow hK hg hk hv
  have hgn := hg.1
  have hn1 := hv.1
  have hn2 := hv.2.1
  have hr1 := hK 1 (by omega) (by omega)
  have hkr := hk.1
  have gek0 := hg.2 k 0 (by omega) (by omega) (by omega) (by omega)
  have gek1 := hg.2 k 1 (by omega) (by omega) (by omega) (by omega)
  have gek2 := hg.2 k 2 (by omega) (by omega) (by omega) (by omega)
  have gek3 := hg.2 k 3 (by omega) (by omega) (by omega) (by omega)
  have gek4 := hg.2 k 4 (by omega) (by omega) (by omega) (by omega)
  have gvk := hv.2.2 k (by omega) (by omega)
  have hon := hK (8 + 3 * g k 0 + 2) (by omega) (by omega)
  have hon2 : m (b + 2) (8 + 3 * m (b + 2) (59 + 5 * k + 0) + 2) = K (8 + 3 * g k 0 + 2) := by rw [gek0]; exact hon
  have hkv := hk.2.1 (g k 0) (by omega) (by omega)
  refine zC.of [zR b, zI k, zI t, zU, zU, zU, zU, zU, zU] (by decide) rfl (zEn1 (zcR _) (zEn1 (zcI _) (zEn1 (zcI _) (zEn0 (by simp))))) rfl ?_
  refine zT.rng hb.a1014 (fun zN => ?_)
  refine zT.aload_n 0 dX13_wrong_0 rfl rfl ?_
  refine zT.iload_n 1 dX13_wrong_1 rfl rfl ?_
  refine zT.iconst dX13_wrong_2 ?_
  refine zT.callV (M' := mX13_go5) (b := b) [zI k, zI 0] [] dX13_wrong_3 kX13_280 rfl rfl (ci := 10) (r := (RX13, TX13, 62)) rfl (zMod.k hb) (C_X13_go5 hb (by first | assumption | exact zq_i _ | exact zand_i _ _ | exact zor_i _ _ | exact zxor_i _ _ | exact zN _ | omega) (by first | assumption | exact zq_i _ | exact zand_i _ _ | exact zor_i _ _ | exact zxor_i _ _ | exact zN _ | omega)) (by decide) (k' := 0) (n' := 0) (by omega) (by omega) (by decide) (zdk (v := some (zI (m (b + 2) (59 + 5 * k + 0)))) ?_) (fun _ _ _ _ h => h.elim)
  show zT G _ _ _ _ [zI (m (b + 2) (59 + 5 * k + 0))] _ _ _ _ _ _
  refine zT.istore_n 3 dX13_wrong_6 rfl (by decide) (zpre1 rfl (zcI _)) ?_
  show zT G _ _ _ [zR b, zI k, zI t, zI (m (b + 2) (59 + 5 * k + 0)), zU, zU, zU, zU, zU] _ _ _ _ _ _ _
  refine zT.aload_n 0 dX13_wrong_7 rfl rfl ?_
  refine zT.iload_n 1 dX13_wrong_8 rfl rfl ?_
  refine zT.iconst dX13_wrong_9 ?_
  refine zT.callV (M' := mX13_go5) (b := b) [zI k, zI 4] [] dX13_wrong_10 kX13_280 rfl rfl (ci := 10) (r := (RX13, TX13, 62)) rfl (zMod.k hb) (C_X13_go5 hb (by first | assumption | exact zq_i _ | exact zand_i _ _ | exact zor_i _ _ | exact zxor_i _ _ | exact zN _ | omega) (by first | assumption | exact zq_i _ | exact zand_i _ _ | exact zor_i _ _ | exact zxor_i _ _ | exact zN _ | omega)) (by decide) (k' := 0) (n' := 0) (by omega) (by omega) (by decide) (zdk (v := some (zI (m (b + 2) (59 + 5 * k + 4)))) ?_) (fun _ _ _ _ h => h.elim)
  show zT G _ _ _ _ [zI (m (b + 2) (59 + 5 * k + 4))] _ _ _ _ _ _
  refine zT.istore 4 dX13_wrong_13 (by decide) (zpre1 rfl (zcI _)) ?_
  show zT G _ _ _ [zR b, zI k, zI t, zI (m (b + 2) (59 + 5 * k + 0)), zI (m (b + 2) (59 + 5 * k + 4)), zU, zU, zU, zU] _ _ _ _ _ _ _
  refine zT.iload 4 dX13_wrong_15 rfl ?_
  refine zT.istore 5 dX13_wrong_17 (by decide) (zpre1 rfl (zcI _)) ?_
  show zT G _ _ _ [zR b, zI k, zI t, zI (m (b + 2) (59 + 5 * k + 0)), zI (m (b + 2) (59 + 5 * k + 4)), zI (m (b + 2) (59 + 5 * k + 4)), zU, zU, zU] _ _ _ _ _ _ _
  refine zT.bipush dX13_wrong_19 ?_
  refine zT.istore 6 dX13_wrong_21 (by decide) (zpre1 rfl (zcI _)) ?_
  show zT G _ _ _ [zR b, zI k, zI t, zI (m (b + 2) (59 + 5 * k + 0)), zI (m (b + 2) (59 + 5 * k + 4)), zI (m (b + 2) (59 + 5 * k + 4)), zI 9, zU, zU] _ _ _ _ _ _ _
  refine zT.iconst dX13_wrong_23 ?_
  refine zT.istore 7 dX13_wrong_24 (by decide) (zpre1 rfl (zcI _)) ?_
  show zT G _ _ _ [zR b, zI k, zI t, zI (m (b + 2) (59 + 5 * k + 0)), zI (m (b + 2) (59 + 5 * k + 4)), zI (m (b + 2) (59 + 5 * k + 4)), zI 9, zI 0, zU] _ _ _ _ _ _ _
  have L26 : ∀ (N : Nat) (i : Int) (l : Int) (u : Int), (0 ≤ i) → (i ≤ k) → (acnt (aW1 g k t) i = 0) → (u = g k 4 + ahad g (g k 0) (g k 1) i) → (aWI K g k t i l) → ((k - i).toNat) < N → zT G mX13_wrong 2 26 [zR b, zI k, zI t, zI (m (b + 2) (59 + 5 * k + 0)), zI (m (b + 2) (59 + 5 * k + 4)), zI u, zI l, zI i, zU] [] S m 0 0 (zDet (some (zI (aWhy K g k t))) S m) zNX := by
    intro N
    induction N with
    | zero => intro i l u i0 i1 hw1 hu hl hN; exact absurd hN (Nat.not_lt_zero _)
    | succ N ih26 =>
      intro i l u i0 i1 hw1 hu hl hN
      have hlr := aWI_r hl
      have bh := ahad_b (s := g k 0) (c := g k 1) (k := i) hv (by omega) (by omega)
      refine zT.iload 7 dX13_wrong_26 rfl ?_
      refine zT.iload_n 1 dX13_wrong_28 rfl rfl ?_
      refine zT.ic_ge (tgt := 207) dX13_wrong_29 (by decide) (by first | assumption | exact zq_i _ | exact zand_i _ _ | exact zor_i _ _ | exact zxor_i _ _ | exact zN _ | omega) (by first | assumption | exact zq_i _ | exact zand_i _ _ | exact zor_i _ _ | exact zxor_i _ _ | exact zN _ | omega) (fun c29 => ?_) (fun c29 => ?_)
      · have hcc : g k 1 = 0 ∨ g k 1 = 1 := by omega
        have hnd := hK (8 + 3 * g k 0 + g k 1) (by omega) (by omega)
        have hnd2 : m (b + 2) (8 + 3 * m (b + 2) (59 + 5 * k + 0) + m (b + 2) (59 + 5 * k + 1)) = K (8 + 3 * g k 0 + g k 1) := by rw [gek0, gek1]; exact hnd
        refine zT.iload 5 dX13_wrong_207 rfl ?_
        refine zT.aload_n 0 dX13_wrong_209 rfl rfl ?_
        refine zT.iload_n 3 dX13_wrong_210 rfl rfl ?_
        refine zT.aload_n 0 dX13_wrong_211 rfl rfl ?_
        refine zT.iload_n 1 dX13_wrong_212 rfl rfl ?_
        refine zT.iconst dX13_wrong_213 ?_
        refine zT.callV (M' := mX13_go5) (b := b) [zI k, zI 1] [zI (m (b + 2) (59 + 5 * k + 0)), zR b, zI u] dX13_wrong_214 kX13_280 rfl rfl (ci := 10) (r := (RX13, TX13, 62)) rfl (zMod.k hb) (C_X13_go5 hb (by first | assumption | exact zq_i _ | exact zand_i _ _ | exact zor_i _ _ | exact zxor_i _ _ | exact zN _ | omega) (by first | assumption | exact zq_i _ | exact zand_i _ _ | exact zor_i _ _ | exact zxor_i _ _ | exact zN _ | omega)) (by decide) (k' := 0) (n' := 0) (by omega) (by omega) (by simp only [List.map, zcI, zcJ, zcR, List.sum_cons, List.sum_nil]; decide) (zdk (v := some (zI (m (b + 2) (59 + 5 * k + 1)))) ?_) (fun _ _ _ _ h => h.elim)
        show zT G _ _ _ _ [zI (m (b + 2) (59 + 5 * k + 1)), zI (m (b + 2) (59 + 5 * k + 0)), zR b, zI u] _ _ _ _ _ _
        refine zT.callV (M' := mX13_needs) (b := b) [zI (m (b + 2) (59 + 5 * k + 0)), zI (m (b + 2) (59 + 5 * k + 1))] [zI u] dX13_wrong_217 kX13_309 rfl rfl (ci := 10) (r := (RX13, TX13, 62)) rfl (zMod.k hb) (C_X13_needs hb (by first | assumption | exact zq_i _ | exact zand_i _ _ | exact zor_i _ _ | exact zxor_i _ _ | exact zN _ | omega) (by first | assumption | exact zq_i _ | exact zand_i _ _ | exact zor_i _ _ | exact zxor_i _ _ | exact zN _ | omega)) (by decide) (k' := 0) (n' := 0) (by omega) (by omega) (by simp only [List.map, zcI, zcJ, zcR, List.sum_cons, List.sum_nil]; decide) (zdk (v := some (zI (m (b + 2) (8 + 3 * (m (b + 2) (59 + 5 * k + 0)) + (m (b + 2) (59 + 5 * k + 1)))))) ?_) (fun _ _ _ _ h => h.elim)
        show zT G _ _ _ _ [zI (m (b + 2) (8 + 3 * (m (b + 2) (59 + 5 * k + 0)) + (m (b + 2) (59 + 5 * k + 1)))), zI u] _ _ _ _ _ _
        refine zT.ic_le (tgt := 232) dX13_wrong_220 (by decide) (by first | assumption | exact zq_i _ | exact zand_i _ _ | exact zor_i _ _ | exact zxor_i _ _ | exact zN _ | omega) (by first | assumption | exact zq_i _ | exact zand_i _ _ | exact zor_i _ _ | exact zxor_i _ _ | exact zN _ | omega) (fun c220 => ?_) (fun c220 => ?_)
        · refine zT.iload 6 dX13_wrong_232 rfl ?_
          refine zT.bipush dX13_wrong_234 ?_
          refine zT.ic_ne (tgt := 243) dX13_wrong_236 (by decide) (by first | assumption | exact zq_i _ | exact zand_i _ _ | exact zor_i _ _ | exact zxor_i _ _ | exact zN _ | omega) (by first | assumption | exact zq_i _ | exact zand_i _ _ | exact zor_i _ _ | exact zxor_i _ _ | exact zN _ | omega) (fun c236 => ?_) (fun c236 => ?_)
          · refine zT.iload 6 dX13_wrong_243 rfl ?_
            refine zT.iret dX13_wrong_245 rfl ?_
            have ei : i = k := by omega
            subst ei
            refine ⟨?_, rfl, rfl⟩
            rw [aWhy_l k0 hw1 hl]
            congr 2
            repeat' split
            all_goals omega
          · refine zT.iconst dX13_wrong_239 ?_
            refine zT.goto (tgt := 245) dX13_wrong_240 (by decide) ?_
            refine zT.iret dX13_wrong_245 rfl ?_
            have ei : i = k := by omega
            subst ei
            refine ⟨?_, rfl, rfl⟩
            rw [aWhy_l k0 hw1 hl]
            congr 2
            repeat' split
            all_goals omega
        · refine zT.iload 6 dX13_wrong_223 rfl ?_
          refine zT.iconst dX13_wrong_225 ?_
          refine zT.ic_le (tgt := 232) dX13_wrong_226 (by decide) (by first | assumption | exact zq_i _ | exact zand_i _ _ | exact zor_i _ _ | exact zxor_i _ _ | exact zN _ | omega) (by first | assumption | exact zq_i _ | exact zand_i _ _ | exact zor_i _ _ | exact zxor_i _ _ | exact zN _ | omega) (fun c226 => ?_) (fun c226 => ?_)
          · refine zT.iload 6 dX13_wrong_232 rfl ?_
            refine zT.bipush dX13_wrong_234 ?_
            refine zT.ic_ne (tgt := 243) dX13_wrong_236 (by decide) (by first | assumption | exact zq_i _ | exact zand_i _ _ | exact zor_i _ _ | exact zxor_i _ _ | exact zN _ | omega) (by first | assumption | exact zq_i _ | exact zand_i _ _ | exact zor_i _ _ | exact zxor_i _ _ | exact zN _ | omega) (fun c236 => ?_) (fun c236 => ?_)
            · refine zT.iload 6 dX13_wrong_243 rfl ?_
              refine zT.iret dX13_wrong_245 rfl ?_
              have ei : i = k := by omega
              subst ei
              refine ⟨?_, rfl, rfl⟩
              rw [aWhy_l k0 hw1 hl]
              congr 2
              repeat' split
              all_goals omega
            · refine zT.iconst dX13_wrong_239 ?_
              refine zT.goto (tgt := 245) dX13_wrong_240 (by decide) ?_
              refine zT.iret dX13_wrong_245 rfl ?_
              have ei : i = k := by omega
              subst ei
              refine ⟨?_, rfl, rfl⟩
              rw [aWhy_l k0 hw1 hl]
              congr 2
              repeat' split
              all_goals omega
          · refine zT.iconst dX13_wrong_229 ?_
            refine zT.istore 6 dX13_wrong_230 (by decide) (zpre1 rfl (zcI _)) ?_
            show zT G _ _ _ [zR b, zI k, zI t, zI (m (b + 2) (59 + 5 * k + 0)), zI (m (b + 2) (59 + 5 * k + 4)), zI u, zI 3, zI i, zU] _ _ _ _ _ _ _
            refine zT.iload 6 dX13_wrong_232 rfl ?_
            refine zT.bipush dX13_wrong_234 ?_
            refine zT.ic_ne (tgt := 243) dX13_wrong_236 (by decide) (by first | assumption | exact zq_i _ | exact zand_i _ _ | exact zor_i _ _ | exact zxor_i _ _ | exact zN _ | omega) (by first | assumption | exact zq_i _ | exact zand_i _ _ | exact zor_i _ _ | exact zxor_i _ _ | exact zN _ | omega) (fun c236 => ?_) (fun c236 => absurd c236 (by decide))
            refine zT.iload 6 dX13_wrong_243 rfl ?_
            refine zT.iret dX13_wrong_245 rfl ?_
            have ei : i = k := by omega
            subst ei
            refine ⟨?_, rfl, rfl⟩
            rw [aWhy_l k0 hw1 hl]
            congr 2
            repeat' split
            all_goals omega
      · have gei0 := hg.2 i 0 (by omega) (by omega) (by omega) (by omega)
        have gei1 := hg.2 i 1 (by omega) (by omega) (by omega) (by omega)
        have gei2 := hg.2 i 2 (by omega) (by omega) (by omega) (by omega)
        have gei3 := hg.2 i 3 (by omega) (by omega) (by omega) (by omega)
        have gei4 := hg.2 i 4 (by omega) (by omega) (by omega) (by omega)
        have gvi := hv.2.2 i (by omega) (by omega)
        refine zT.iload_n 2 dX13_wrong_32 rfl rfl ?_
        refine zT.iload 4 dX13_wrong_33 rfl ?_
        refine zT.aload_n 0 dX13_wrong_35 rfl rfl ?_
        refine zT.iload 7 dX13_wrong_36 rfl ?_
        refine zT.callV (M' := mX13_from) (b := b) [zI i] [zI (m (b + 2) (59 + 5 * k + 4)), zI t] dX13_wrong_38 kX13_297 rfl rfl (ci := 10) (r := (RX13, TX13, 62)) rfl (zMod.k hb) (C_X13_from hb (by first | assumption | exact zq_i _ | exact zand_i _ _ | exact zor_i _ _ | exact zxor_i _ _ | exact zN _ | omega)) (by decide) (k' := 0) (n' := 0) (by omega) (by omega) (by simp only [List.map, zcI, zcJ, zcR, List.sum_cons, List.sum_nil]; decide) (zdk (v := some (zI (m (b + 2) (59 + 5 * i + 2)))) ?_) (fun _ _ _ _ h => h.elim)
        show zT G _ _ _ _ [zI (m (b + 2) (59 + 5 * i + 2)), zI (m (b + 2) (59 + 5 * k + 4)), zI t] _ _ _ _ _ _
        refine zT.aload_n 0 dX13_wrong_41 rfl rfl ?_
        refine zT.iload 7 dX13_wrong_42 rfl ?_
        refine zT.iconst dX13_wrong_44 ?_
        refine zT.callV (M' := mX13_go5) (b := b) [zI i, zI 4] [zI (m (b + 2) (59 + 5 * i + 2)), zI (m (b + 2) (59 + 5 * k + 4)), zI t] dX13_wrong_45 kX13_280 rfl rfl (ci := 10) (r := (RX13, TX13, 62)) rfl (zMod.k hb) (C_X13_go5 hb (by first | assumption | exact zq_i _ | exact zand_i _ _ | exact zor_i _ _ | exact zxor_i _ _ | exact zN _ | omega) (by first | assumption | exact zq_i _ | exact zand_i _ _ | exact zor_i _ _ | exact zxor_i _ _ | exact zN _ | omega)) (by decide) (k' := 0) (n' := 0) (by omega) (by omega) (by simp only [List.map, zcI, zcJ, zcR, List.sum_cons, List.sum_nil]; decide) (zdk (v := some (zI (m (b + 2) (59 + 5 * i + 4)))) ?_) (fun _ _ _ _ h => h.elim)
        show zT G _ _ _ _ [zI (m (b + 2) (59 + 5 * i + 4)), zI (m (b + 2) (59 + 5 * i + 2)), zI (m (b + 2) (59 + 5 * k + 4)), zI t] _ _ _ _ _ _
        refine zT.callS (M' := mX13_overlap) [zI t, zI (m (b + 2) (59 + 5 * k + 4)), zI (m (b + 2) (59 + 5 * i + 2)), zI (m (b + 2) (59 + 5 * i + 4))] [] dX13_wrong_48 kX13_299 rfl rfl (C_X13_overlap (by first | assumption | exact zq_i _ | exact zand_i _ _ | exact zor_i _ _ | exact zxor_i _ _ | exact zN _ | omega) (by first | assumption | exact zq_i _ | exact zand_i _ _ | exact zor_i _ _ | exact zxor_i _ _ | exact zN _ | omega) (by first | assumption | exact zq_i _ | exact zand_i _ _ | exact zor_i _ _ | exact zxor_i _ _ | exact zN _ | omega) (by first | assumption | exact zq_i _ | exact zand_i _ _ | exact zor_i _ _ | exact zxor_i _ _ | exact zN _ | omega)) (by decide) (k' := 0) (n' := 0) (by omega) (by omega) (by decide) (zdk (v := some (zI (zq (t < (m (b + 2) (59 + 5 * i + 2)) + (m (b + 2) (59 + 5 * i + 4)) ∧ (m (b + 2) (59 + 5 * i + 2)) < t + (m (b + 2) (59 + 5 * k + 4)))))) ?_) (fun _ _ _ _ h => h.elim)
        show zT G _ _ _ _ [zI (zq (t < (m (b + 2) (59 + 5 * i + 2)) + (m (b + 2) (59 + 5 * i + 4)) ∧ (m (b + 2) (59 + 5 * i + 2)) < t + (m (b + 2) (59 + 5 * k + 4))))] _ _ _ _ _ _
        refine zT.istore 8 dX13_wrong_51 (by decide) (zpre1 rfl (zcI _)) ?_
        show zT G _ _ _ [zR b, zI k, zI t, zI (m (b + 2) (59 + 5 * k + 0)), zI (m (b + 2) (59 + 5 * k + 4)), zI u, zI l, zI i, zI (zq (t < (m (b + 2) (59 + 5 * i + 2)) + (m (b + 2) (59 + 5 * i + 4)) ∧ (m (b + 2) (59 + 5 * i + 2)) < t + (m (b + 2) (59 + 5 * k + 4))))] _ _ _ _ _ _ _
        refine zT.iload 8 dX13_wrong_53 rfl ?_
        refine zT.if_eqB (tgt := 76) dX13_wrong_55 (by decide) (fun c55 => ?_) (fun c55 => ?_)
        · refine zT.aload_n 0 dX13_wrong_76 rfl rfl ?_
          refine zT.iload 7 dX13_wrong_77 rfl ?_
          refine zT.iconst dX13_wrong_79 ?_
          refine zT.callV (M' := mX13_go5) (b := b) [zI i, zI 0] [] dX13_wrong_80 kX13_280 rfl rfl (ci := 10) (r := (RX13, TX13, 62)) rfl (zMod.k hb) (C_X13_go5 hb (by first | assumption | exact zq_i _ | exact zand_i _ _ | exact zor_i _ _ | exact zxor_i _ _ | exact zN _ | omega) (by first | assumption | exact zq_i _ | exact zand_i _ _ | exact zor_i _ _ | exact zxor_i _ _ | exact zN _ | omega)) (by decide) (k' := 0) (n' := 0) (by omega) (by omega) (by decide) (zdk (v := some (zI (m (b + 2) (59 + 5 * i + 0)))) ?_) (fun _ _ _ _ h => h.elim)
          show zT G _ _ _ _ [zI (m (b + 2) (59 + 5 * i + 0))] _ _ _ _ _ _
          refine zT.iload_n 3 dX13_wrong_83 rfl rfl ?_
          refine zT.ic_eq (tgt := 90) dX13_wrong_84 (by decide) (by first | assumption | exact zq_i _ | exact zand_i _ _ | exact zor_i _ _ | exact zxor_i _ _ | exact zN _ | omega) (by first | assumption | exact zq_i _ | exact zand_i _ _ | exact zor_i _ _ | exact zxor_i _ _ | exact zN _ | omega) (fun c84 => ?_) (fun c84 => ?_)
          · refine zT.iload 8 dX13_wrong_90 rfl ?_
            refine zT.if_eqB (tgt := 98) dX13_wrong_92 (by decide) (fun c92 => ?_) (fun c92 => ?_)
            · refine zT.aload_n 0 dX13_wrong_98 rfl rfl ?_
              refine zT.iload 7 dX13_wrong_99 rfl ?_
              refine zT.iconst dX13_wrong_101 ?_
              refine zT.callV (M' := mX13_go5) (b := b) [zI i, zI 1] [] dX13_wrong_102 kX13_280 rfl rfl (ci := 10) (r := (RX13, TX13, 62)) rfl (zMod.k hb) (C_X13_go5 hb (by first | assumption | exact zq_i _ | exact zand_i _ _ | exact zor_i _ _ | exact zxor_i _ _ | exact zN _ | omega) (by first | assumption | exact zq_i _ | exact zand_i _ _ | exact zor_i _ _ | exact zxor_i _ _ | exact zN _ | omega)) (by decide) (k' := 0) (n' := 0) (by omega) (by omega) (by decide) (zdk (v := some (zI (m (b + 2) (59 + 5 * i + 1)))) ?_) (fun _ _ _ _ h => h.elim)
              show zT G _ _ _ _ [zI (m (b + 2) (59 + 5 * i + 1))] _ _ _ _ _ _
              refine zT.aload_n 0 dX13_wrong_105 rfl rfl ?_
              refine zT.iload_n 1 dX13_wrong_106 rfl rfl ?_
              refine zT.iconst dX13_wrong_107 ?_
              refine zT.callV (M' := mX13_go5) (b := b) [zI k, zI 1] [zI (m (b + 2) (59 + 5 * i + 1))] dX13_wrong_108 kX13_280 rfl rfl (ci := 10) (r := (RX13, TX13, 62)) rfl (zMod.k hb) (C_X13_go5 hb (by first | assumption | exact zq_i _ | exact zand_i _ _ | exact zor_i _ _ | exact zxor_i _ _ | exact zN _ | omega) (by first | assumption | exact zq_i _ | exact zand_i _ _ | exact zor_i _ _ | exact zxor_i _ _ | exact zN _ | omega)) (by decide) (k' := 0) (n' := 0) (by omega) (by omega) (by simp only [List.map, zcI, zcJ, zcR, List.sum_cons, List.sum_nil]; decide) (zdk (v := some (zI (m (b + 2) (59 + 5 * k + 1)))) ?_) (fun _ _ _ _ h => h.elim)
              show zT G _ _ _ _ [zI (m (b + 2) (59 + 5 * k + 1)), zI (m (b + 2) (59 + 5 * i + 1))] _ _ _ _ _ _
              refine zT.ic_ne (tgt := 146) dX13_wrong_111 (by decide) (by first | assumption | exact zq_i _ | exact zand_i _ _ | exact zor_i _ _ | exact zxor_i _ _ | exact zN _ | omega) (by first | assumption | exact zq_i _ | exact zand_i _ _ | exact zor_i _ _ | exact zxor_i _ _ | exact zN _ | omega) (fun c111 => ?_) (fun c111 => ?_)
              · refine zT.iload 8 dX13_wrong_146 rfl ?_
                refine zT.if_neB (tgt := 201) dX13_wrong_148 (by decide) (fun c148 => ?_) (fun c148 => ?_)
                · refine zT.iinc 7 dX13_wrong_201 rfl (by decide) (zpre1 rfl (zcI _)) ?_
                  show zT G _ _ _ [zR b, zI k, zI t, zI (m (b + 2) (59 + 5 * k + 0)), zI (m (b + 2) (59 + 5 * k + 4)), zI u, zI l, zI (i + 1), zI (zq (t < (m (b + 2) (59 + 5 * i + 2)) + (m (b + 2) (59 + 5 * i + 4)) ∧ (m (b + 2) (59 + 5 * i + 2)) < t + (m (b + 2) (59 + 5 * k + 4))))] _ _ _ _ _ _ _
                  refine zT.goto (tgt := 26) dX13_wrong_204 (by decide) ?_
                  refine zT.loc (V' := [zR b, zI k, zI t, zI (m (b + 2) (59 + 5 * k + 0)), zI (m (b + 2) (59 + 5 * k + 4)), zI u, zI l, zI (i + 1), zU]) ?_ ⟨Or.inr rfl, Or.inr rfl, Or.inr rfl, Or.inr rfl, Or.inr rfl, Or.inr rfl, Or.inr rfl, Or.inr rfl, Or.inl rfl, trivial⟩
                  exact ih26 _ _ _ (by first | assumption | exact zq_i _ | exact zand_i _ _ | exact zor_i _ _ | exact zxor_i _ _ | exact zN _ | omega) (by first | assumption | exact zq_i _ | exact zand_i _ _ | exact zor_i _ _ | exact zxor_i _ _ | exact zN _ | omega) (by exact acnt_z i0 hw1 (by rw [aW1_i]; omega)) (by first | (rw [ahad_f i0 (by omega)]; omega) | (rw [ahad_t i0 (by omega) (by omega)]; omega)) (by first | exact aWI_a i0 hl (by omega) | exact aWI_b i0 (by omega) (by omega) (by omega) | exact aWI_c i0 hl (by omega) (by omega) (by omega) (by omega) (by omega) (by omega) | exact aWI_d i0 hl (by omega) (by omega) (by omega) (by omega)) (by omega)
                · refine zT.iload_n 2 dX13_wrong_151 rfl rfl ?_
                  refine zT.aload_n 0 dX13_wrong_152 rfl rfl ?_
                  refine zT.iload 7 dX13_wrong_153 rfl ?_
                  refine zT.callV (M' := mX13_from) (b := b) [zI i] [zI t] dX13_wrong_155 kX13_297 rfl rfl (ci := 10) (r := (RX13, TX13, 62)) rfl (zMod.k hb) (C_X13_from hb (by first | assumption | exact zq_i _ | exact zand_i _ _ | exact zor_i _ _ | exact zxor_i _ _ | exact zN _ | omega)) (by decide) (k' := 0) (n' := 0) (by omega) (by omega) (by simp only [List.map, zcI, zcJ, zcR, List.sum_cons, List.sum_nil]; decide) (zdk (v := some (zI (m (b + 2) (59 + 5 * i + 2)))) ?_) (fun _ _ _ _ h => h.elim)
                  show zT G _ _ _ _ [zI (m (b + 2) (59 + 5 * i + 2)), zI t] _ _ _ _ _ _
                  refine zT.ic_le (tgt := 172) dX13_wrong_158 (by decide) (by first | assumption | exact zq_i _ | exact zand_i _ _ | exact zor_i _ _ | exact zxor_i _ _ | exact zN _ | omega) (by first | assumption | exact zq_i _ | exact zand_i _ _ | exact zor_i _ _ | exact zxor_i _ _ | exact zN _ | omega) (fun c158 => ?_) (fun c158 => ?_)
                  · refine zT.aload_n 0 dX13_wrong_172 rfl rfl ?_
                    refine zT.iload 7 dX13_wrong_173 rfl ?_
                    refine zT.callV (M' := mX13_from) (b := b) [zI i] [] dX13_wrong_175 kX13_297 rfl rfl (ci := 10) (r := (RX13, TX13, 62)) rfl (zMod.k hb) (C_X13_from hb (by first | assumption | exact zq_i _ | exact zand_i _ _ | exact zor_i _ _ | exact zxor_i _ _ | exact zN _ | omega)) (by decide) (k' := 0) (n' := 0) (by omega) (by omega) (by decide) (zdk (v := some (zI (m (b + 2) (59 + 5 * i + 2)))) ?_) (fun _ _ _ _ h => h.elim)
                    show zT G _ _ _ _ [zI (m (b + 2) (59 + 5 * i + 2))] _ _ _ _ _ _
                    refine zT.iload_n 2 dX13_wrong_178 rfl rfl ?_
                    refine zT.isub dX13_wrong_179 ?_
                    refine zT.iload 4 dX13_wrong_180 rfl ?_
                    refine zT.isub dX13_wrong_182 ?_
                    refine zT.aload_n 0 dX13_wrong_183 rfl rfl ?_
                    refine zT.getF dX13_wrong_184 fX13_13 rfl (zMod.k hb) (j := 14) (by decide) rfl (zMod.f1014 hb) ?_
                    refine zT.iconst dX13_wrong_187 ?_
                    refine zT.iald dX13_wrong_188 (zMod.a1014 hb) (by first | assumption | exact zq_i _ | exact zand_i _ _ | exact zor_i _ _ | exact zxor_i _ _ | exact zN _ | omega) (by rw [(zMod.n1014 hb)]; first | assumption | exact zq_i _ | exact zand_i _ _ | exact zor_i _ _ | exact zxor_i _ _ | exact zN _ | omega) (fun z188 => ?_)
                    refine zT.ic_ge (tgt := 201) dX13_wrong_189 (by decide) (by first | assumption | exact zq_i _ | exact zand_i _ _ | exact zor_i _ _ | exact zxor_i _ _ | exact zN _ | omega) (by first | assumption | exact zq_i _ | exact zand_i _ _ | exact zor_i _ _ | exact zxor_i _ _ | exact zN _ | omega) (fun c189 => ?_) (fun c189 => ?_)
                    · refine zT.iinc 7 dX13_wrong_201 rfl (by decide) (zpre1 rfl (zcI _)) ?_
                      show zT G _ _ _ [zR b, zI k, zI t, zI (m (b + 2) (59 + 5 * k + 0)), zI (m (b + 2) (59 + 5 * k + 4)), zI u, zI l, zI (i + 1), zI (zq (t < (m (b + 2) (59 + 5 * i + 2)) + (m (b + 2) (59 + 5 * i + 4)) ∧ (m (b + 2) (59 + 5 * i + 2)) < t + (m (b + 2) (59 + 5 * k + 4))))] _ _ _ _ _ _ _
                      refine zT.goto (tgt := 26) dX13_wrong_204 (by decide) ?_
                      refine zT.loc (V' := [zR b, zI k, zI t, zI (m (b + 2) (59 + 5 * k + 0)), zI (m (b + 2) (59 + 5 * k + 4)), zI u, zI l, zI (i + 1), zU]) ?_ ⟨Or.inr rfl, Or.inr rfl, Or.inr rfl, Or.inr rfl, Or.inr rfl, Or.inr rfl, Or.inr rfl, Or.inr rfl, Or.inl rfl, trivial⟩
                      exact ih26 _ _ _ (by first | assumption | exact zq_i _ | exact zand_i _ _ | exact zor_i _ _ | exact zxor_i _ _ | exact zN _ | omega) (by first | assumption | exact zq_i _ | exact zand_i _ _ | exact zor_i _ _ | exact zxor_i _ _ | exact zN _ | omega) (by exact acnt_z i0 hw1 (by rw [aW1_i]; omega)) (by first | (rw [ahad_f i0 (by omega)]; omega) | (rw [ahad_t i0 (by omega) (by omega)]; omega)) (by first | exact aWI_a i0 hl (by omega) | exact aWI_b i0 (by omega) (by omega) (by omega) | exact aWI_c i0 hl (by omega) (by omega) (by omega) (by omega) (by omega) (by omega) | exact aWI_d i0 hl (by omega) (by omega) (by omega) (by omega)) (by omega)
                    · refine zT.iload 6 dX13_wrong_192 rfl ?_
                      refine zT.iconst dX13_wrong_194 ?_
                      refine zT.ic_le (tgt := 201) dX13_wrong_195 (by decide) (by first | assumption | exact zq_i _ | exact zand_i _ _ | exact zor_i _ _ | exact zxor_i _ _ | exact zN _ | omega) (by first | assumption | exact zq_i _ | exact zand_i _ _ | exact zor_i _ _ | exact zxor_i _ _ | exact zN _ | omega) (fun c195 => ?_) (fun c195 => ?_)
                      · refine zT.iinc 7 dX13_wrong_201 rfl (by decide) (zpre1 rfl (zcI _)) ?_
                        show zT G _ _ _ [zR b, zI k, zI t, zI (m (b + 2) (59 + 5 * k + 0)), zI (m (b + 2) (59 + 5 * k + 4)), zI u, zI l, zI (i + 1), zI (zq (t < (m (b + 2) (59 + 5 * i + 2)) + (m (b + 2) (59 + 5 * i + 4)) ∧ (m (b + 2) (59 + 5 * i + 2)) < t + (m (b + 2) (59 + 5 * k + 4))))] _ _ _ _ _ _ _
                        refine zT.goto (tgt := 26) dX13_wrong_204 (by decide) ?_
                        refine zT.loc (V' := [zR b, zI k, zI t, zI (m (b + 2) (59 + 5 * k + 0)), zI (m (b + 2) (59 + 5 * k + 4)), zI u, zI l, zI (i + 1), zU]) ?_ ⟨Or.inr rfl, Or.inr rfl, Or.inr rfl, Or.inr rfl, Or.inr rfl, Or.inr rfl, Or.inr rfl, Or.inr rfl, Or.inl rfl, trivial⟩
                        exact ih26 _ _ _ (by first | assumption | exact zq_i _ | exact zand_i _ _ | exact zor_i _ _ | exact zxor_i _ _ | exact zN _ | omega) (by first | assumption | exact zq_i _ | exact zand_i _ _ | exact zor_i _ _ | exact zxor_i _ _ | exact zN _ | omega) (by exact acnt_z i0 hw1 (by rw [aW1_i]; omega)) (by first | (rw [ahad_f i0 (by omega)]; omega) | (rw [ahad_t i0 (by omega) (by omega)]; omega)) (by first | exact aWI_a i0 hl (by omega) | exact aWI_b i0 (by omega) (by omega) (by omega) | exact aWI_c i0 hl (by omega) (by omega) (by omega) (by omega) (by omega) (by omega) | exact aWI_d i0 hl (by omega) (by omega) (by omega) (by omega)) (by omega)
                      · refine zT.iconst dX13_wrong_198 ?_
                        refine zT.istore 6 dX13_wrong_199 (by decide) (zpre1 rfl (zcI _)) ?_
                        show zT G _ _ _ [zR b, zI k, zI t, zI (m (b + 2) (59 + 5 * k + 0)), zI (m (b + 2) (59 + 5 * k + 4)), zI u, zI 5, zI i, zI (zq (t < (m (b + 2) (59 + 5 * i + 2)) + (m (b + 2) (59 + 5 * i + 4)) ∧ (m (b + 2) (59 + 5 * i + 2)) < t + (m (b + 2) (59 + 5 * k + 4))))] _ _ _ _ _ _ _
                        refine zT.iinc 7 dX13_wrong_201 rfl (by decide) (zpre1 rfl (zcI _)) ?_
                        show zT G _ _ _ [zR b, zI k, zI t, zI (m (b + 2) (59 + 5 * k + 0)), zI (m (b + 2) (59 + 5 * k + 4)), zI u, zI 5, zI (i + 1), zI (zq (t < (m (b + 2) (59 + 5 * i + 2)) + (m (b + 2) (59 + 5 * i + 4)) ∧ (m (b + 2) (59 + 5 * i + 2)) < t + (m (b + 2) (59 + 5 * k + 4))))] _ _ _ _ _ _ _
                        refine zT.goto (tgt := 26) dX13_wrong_204 (by decide) ?_
                        refine zT.loc (V' := [zR b, zI k, zI t, zI (m (b + 2) (59 + 5 * k + 0)), zI (m (b + 2) (59 + 5 * k + 4)), zI u, zI 5, zI (i + 1), zU]) ?_ ⟨Or.inr rfl, Or.inr rfl, Or.inr rfl, Or.inr rfl, Or.inr rfl, Or.inr rfl, Or.inr rfl, Or.inr rfl, Or.inl rfl, trivial⟩
                        exact ih26 _ _ _ (by first | assumption | exact zq_i _ | exact zand_i _ _ | exact zor_i _ _ | exact zxor_i _ _ | exact zN _ | omega) (by first | assumption | exact zq_i _ | exact zand_i _ _ | exact zor_i _ _ | exact zxor_i _ _ | exact zN _ | omega) (by exact acnt_z i0 hw1 (by rw [aW1_i]; omega)) (by first | (rw [ahad_f i0 (by omega)]; omega) | (rw [ahad_t i0 (by omega) (by omega)]; omega)) (by first | exact aWI_a i0 hl (by omega) | exact aWI_b i0 (by omega) (by omega) (by omega) | exact aWI_c i0 hl (by omega) (by omega) (by omega) (by omega) (by omega) (by omega) | exact aWI_d i0 hl (by omega) (by omega) (by omega) (by omega)) (by omega)
                  · refine zT.iload_n 2 dX13_wrong_161 rfl rfl ?_
                    refine zT.aload_n 0 dX13_wrong_162 rfl rfl ?_
                    refine zT.iload 7 dX13_wrong_163 rfl ?_
                    refine zT.callV (M' := mX13_behind) (b := b) [zI i] [zI t] dX13_wrong_165 kX13_306 rfl rfl (ci := 10) (r := (RX13, TX13, 62)) rfl (zMod.k hb) (C_X13_behind hb (by first | assumption | exact zq_i _ | exact zand_i _ _ | exact zor_i _ _ | exact zxor_i _ _ | exact zN _ | omega)) (by decide) (k' := 0) (n' := 0) (by omega) (by omega) (by simp only [List.map, zcI, zcJ, zcR, List.sum_cons, List.sum_nil]; decide) (zdk (v := some (zI (m (b + 2) (59 + 5 * i + 2) + m (b + 2) (59 + 5 * i + 4)))) ?_) (fun _ _ _ _ h => h.elim)
                    show zT G _ _ _ _ [zI (m (b + 2) (59 + 5 * i + 2) + m (b + 2) (59 + 5 * i + 4)), zI t] _ _ _ _ _ _
                    refine zT.isub dX13_wrong_168 ?_
                    refine zT.goto (tgt := 183) dX13_wrong_169 (by decide) ?_
                    refine zT.aload_n 0 dX13_wrong_183 rfl rfl ?_
                    refine zT.getF dX13_wrong_184 fX13_13 rfl (zMod.k hb) (j := 14) (by decide) rfl (zMod.f1014 hb) ?_
                    refine zT.iconst dX13_wrong_187 ?_
                    refine zT.iald dX13_wrong_188 (zMod.a1014 hb) (by first | assumption | exact zq_i _ | exact zand_i _ _ | exact zor_i _ _ | exact zxor_i _ _ | exact zN _ | omega) (by rw [(zMod.n1014 hb)]; first | assumption | exact zq_i _ | exact zand_i _ _ | exact zor_i _ _ | exact zxor_i _ _ | exact zN _ | omega) (fun z188 => ?_)
                    refine zT.ic_ge (tgt := 201) dX13_wrong_189 (by decide) (by first | assumption | exact zq_i _ | exact zand_i _ _ | exact zor_i _ _ | exact zxor_i _ _ | exact zN _ | omega) (by first | assumption | exact zq_i _ | exact zand_i _ _ | exact zor_i _ _ | exact zxor_i _ _ | exact zN _ | omega) (fun c189 => ?_) (fun c189 => ?_)
                    · refine zT.iinc 7 dX13_wrong_201 rfl (by decide) (zpre1 rfl (zcI _)) ?_
                      show zT G _ _ _ [zR b, zI k, zI t, zI (m (b + 2) (59 + 5 * k + 0)), zI (m (b + 2) (59 + 5 * k + 4)), zI u, zI l, zI (i + 1), zI (zq (t < (m (b + 2) (59 + 5 * i + 2)) + (m (b + 2) (59 + 5 * i + 4)) ∧ (m (b + 2) (59 + 5 * i + 2)) < t + (m (b + 2) (59 + 5 * k + 4))))] _ _ _ _ _ _ _
                      refine zT.goto (tgt := 26) dX13_wrong_204 (by decide) ?_
                      refine zT.loc (V' := [zR b, zI k, zI t, zI (m (b + 2) (59 + 5 * k + 0)), zI (m (b + 2) (59 + 5 * k + 4)), zI u, zI l, zI (i + 1), zU]) ?_ ⟨Or.inr rfl, Or.inr rfl, Or.inr rfl, Or.inr rfl, Or.inr rfl, Or.inr rfl, Or.inr rfl, Or.inr rfl, Or.inl rfl, trivial⟩
                      exact ih26 _ _ _ (by first | assumption | exact zq_i _ | exact zand_i _ _ | exact zor_i _ _ | exact zxor_i _ _ | exact zN _ | omega) (by first | assumption | exact zq_i _ | exact zand_i _ _ | exact zor_i _ _ | exact zxor_i _ _ | exact zN _ | omega) (by exact acnt_z i0 hw1 (by rw [aW1_i]; omega)) (by first | (rw [ahad_f i0 (by omega)]; omega) | (rw [ahad_t i0 (by omega) (by omega)]; omega)) (by first | exact aWI_a i0 hl (by omega) | exact aWI_b i0 (by omega) (by omega) (by omega) | exact aWI_c i0 hl (by omega) (by omega) (by omega) (by omega) (by omega) (by omega) | exact aWI_d i0 hl (by omega) (by omega) (by omega) (by omega)) (by omega)
                    · refine zT.iload 6 dX13_wrong_192 rfl ?_
                      refine zT.iconst dX13_wrong_194 ?_
                      refine zT.ic_le (tgt := 201) dX13_wrong_195 (by decide) (by first | assumption | exact zq_i _ | exact zand_i _ _ | exact zor_i _ _ | exact zxor_i _ _ | exact zN _ | omega) (by first | assumption | exact zq_i _ | exact zand_i _ _ | exact zor_i _ _ | exact zxor_i _ _ | exact zN _ | omega) (fun c195 => ?_) (fun c195 => ?_)
                      · refine zT.iinc 7 dX13_wrong_201 rfl (by decide) (zpre1 rfl (zcI _)) ?_
                        show zT G _ _ _ [zR b, zI k, zI t, zI (m (b + 2) (59 + 5 * k + 0)), zI (m (b + 2) (59 + 5 * k + 4)), zI u, zI l, zI (i + 1), zI (zq (t < (m (b + 2) (59 + 5 * i + 2)) + (m (b + 2) (59 + 5 * i + 4)) ∧ (m (b + 2) (59 + 5 * i + 2)) < t + (m (b + 2) (59 + 5 * k + 4))))] _ _ _ _ _ _ _
                        refine zT.goto (tgt := 26) dX13_wrong_204 (by decide) ?_
                        refine zT.loc (V' := [zR b, zI k, zI t, zI (m (b + 2) (59 + 5 * k + 0)), zI (m (b + 2) (59 + 5 * k + 4)), zI u, zI l, zI (i + 1), zU]) ?_ ⟨Or.inr rfl, Or.inr rfl, Or.inr rfl, Or.inr rfl, Or.inr rfl, Or.inr rfl, Or.inr rfl, Or.inr rfl, Or.inl rfl, trivial⟩
                        exact ih26 _ _ _ (by first | assumption | exact zq_i _ | exact zand_i _ _ | exact zor_i _ _ | exact zxor_i _ _ | exact zN _ | omega) (by first | assumption | exact zq_i _ | exact zand_i _ _ | exact zor_i _ _ | exact zxor_i _ _ | exact zN _ | omega) (by exact acnt_z i0 hw1 (by rw [aW1_i]; omega)) (by first | (rw [ahad_f i0 (by omega)]; omega) | (rw [ahad_t i0 (by omega) (by omega)]; omega)) (by first | exact aWI_a i0 hl (by omega) | exact aWI_b i0 (by omega) (by omega) (by omega) | exact aWI_c i0 hl (by omega) (by omega) (by omega) (by omega) (by omega) (by omega) | exact aWI_d i0 hl (by omega) (by omega) (by omega) (by omega)) (by omega)
                      · refine zT.iconst dX13_wrong_198 ?_
                        refine zT.istore 6 dX13_wrong_199 (by decide) (zpre1 rfl (zcI _)) ?_
                        show zT G _ _ _ [zR b, zI k, zI t, zI (m (b + 2) (59 + 5 * k + 0)), zI (m (b + 2) (59 + 5 * k + 4)), zI u, zI 5, zI i, zI (zq (t < (m (b + 2) (59 + 5 * i + 2)) + (m (b + 2) (59 + 5 * i + 4)) ∧ (m (b + 2) (59 + 5 * i + 2)) < t + (m (b + 2) (59 + 5 * k + 4))))] _ _ _ _ _ _ _
                        refine zT.iinc 7 dX13_wrong_201 rfl (by decide) (zpre1 rfl (zcI _)) ?_
                        show zT G _ _ _ [zR b, zI k, zI t, zI (m (b + 2) (59 + 5 * k + 0)), zI (m (b + 2) (59 + 5 * k + 4)), zI u, zI 5, zI (i + 1), zI (zq (t < (m (b + 2) (59 + 5 * i + 2)) + (m (b + 2) (59 + 5 * i + 4)) ∧ (m (b + 2) (59 + 5 * i + 2)) < t + (m (b + 2) (59 + 5 * k + 4))))] _ _ _ _ _ _ _
                        refine zT.goto (tgt := 26) dX13_wrong_204 (by decide) ?_
                        refine zT.loc (V' := [zR b, zI k, zI t, zI (m (b + 2) (59 + 5 * k + 0)), zI (m (b + 2) (59 + 5 * k + 4)), zI u, zI 5, zI (i + 1), zU]) ?_ ⟨Or.inr rfl, Or.inr rfl, Or.inr rfl, Or.inr rfl, Or.inr rfl, Or.inr rfl, Or.inr rfl, Or.inr rfl, Or.inl rfl, trivial⟩
                        exact ih26 _ _ _ (by first | assumption | exact zq_i _ | exact zand_i _ _ | exact zor_i _ _ | exact zxor_i _ _ | exact zN _ | omega) (by first | assumption | exact zq_i _ | exact zand_i _ _ | exact zor_i _ _ | exact zxor_i _ _ | exact zN _ | omega) (by exact acnt_z i0 hw1 (by rw [aW1_i]; omega)) (by first | (rw [ahad_f i0 (by omega)]; omega) | (rw [ahad_t i0 (by omega) (by omega)]; omega)) (by first | exact aWI_a i0 hl (by omega) | exact aWI_b i0 (by omega) (by omega) (by omega) | exact aWI_c i0 hl (by omega) (by omega) (by omega) (by omega) (by omega) (by omega) | exact aWI_d i0 hl (by omega) (by omega) (by omega) (by omega)) (by omega)
              · refine zT.iload 5 dX13_wrong_114 rfl ?_
                refine zT.aload_n 0 dX13_wrong_116 rfl rfl ?_
                refine zT.iload 7 dX13_wrong_117 rfl ?_
                refine zT.iconst dX13_wrong_119 ?_
                refine zT.callV (M' := mX13_go5) (b := b) [zI i, zI 4] [zI u] dX13_wrong_120 kX13_280 rfl rfl (ci := 10) (r := (RX13, TX13, 62)) rfl (zMod.k hb) (C_X13_go5 hb (by first | assumption | exact zq_i _ | exact zand_i _ _ | exact zor_i _ _ | exact zxor_i _ _ | exact zN _ | omega) (by first | assumption | exact zq_i _ | exact zand_i _ _ | exact zor_i _ _ | exact zxor_i _ _ | exact zN _ | omega)) (by decide) (k' := 0) (n' := 0) (by omega) (by omega) (by simp only [List.map, zcI, zcJ, zcR, List.sum_cons, List.sum_nil]; decide) (zdk (v := some (zI (m (b + 2) (59 + 5 * i + 4)))) ?_) (fun _ _ _ _ h => h.elim)
                show zT G _ _ _ _ [zI (m (b + 2) (59 + 5 * i + 4)), zI u] _ _ _ _ _ _
                refine zT.iadd dX13_wrong_123 ?_
                refine zT.istore 5 dX13_wrong_124 (by decide) (zpre1 rfl (zcI _)) ?_
                show zT G _ _ _ [zR b, zI k, zI t, zI (m (b + 2) (59 + 5 * k + 0)), zI (m (b + 2) (59 + 5 * k + 4)), zI (u + (m (b + 2) (59 + 5 * i + 4))), zI l, zI i, zI (zq (t < (m (b + 2) (59 + 5 * i + 2)) + (m (b + 2) (59 + 5 * i + 4)) ∧ (m (b + 2) (59 + 5 * i + 2)) < t + (m (b + 2) (59 + 5 * k + 4))))] _ _ _ _ _ _ _
                refine zT.aload_n 0 dX13_wrong_126 rfl rfl ?_
                refine zT.iload_n 3 dX13_wrong_127 rfl rfl ?_
                refine zT.callV (M' := mX13_isOnce) (b := b) [zI (m (b + 2) (59 + 5 * k + 0))] [] dX13_wrong_128 kX13_303 rfl rfl (ci := 10) (r := (RX13, TX13, 62)) rfl (zMod.k hb) (C_X13_isOnce hb (by first | assumption | exact zq_i _ | exact zand_i _ _ | exact zor_i _ _ | exact zxor_i _ _ | exact zN _ | omega)) (by decide) (k' := 0) (n' := 0) (by omega) (by omega) (by decide) (zdk (v := some (zI (zq (0 < m (b + 2) (8 + 3 * (m (b + 2) (59 + 5 * k + 0)) + 2))))) ?_) (fun _ _ _ _ h => h.elim)
                show zT G _ _ _ _ [zI (zq (0 < m (b + 2) (8 + 3 * (m (b + 2) (59 + 5 * k + 0)) + 2)))] _ _ _ _ _ _
                refine zT.if_eqB (tgt := 201) dX13_wrong_131 (by decide) (fun c131 => ?_) (fun c131 => ?_)
                · refine zT.iinc 7 dX13_wrong_201 rfl (by decide) (zpre1 rfl (zcI _)) ?_
                  show zT G _ _ _ [zR b, zI k, zI t, zI (m (b + 2) (59 + 5 * k + 0)), zI (m (b + 2) (59 + 5 * k + 4)), zI (u + (m (b + 2) (59 + 5 * i + 4))), zI l, zI (i + 1), zI (zq (t < (m (b + 2) (59 + 5 * i + 2)) + (m (b + 2) (59 + 5 * i + 4)) ∧ (m (b + 2) (59 + 5 * i + 2)) < t + (m (b + 2) (59 + 5 * k + 4))))] _ _ _ _ _ _ _
                  refine zT.goto (tgt := 26) dX13_wrong_204 (by decide) ?_
                  refine zT.loc (V' := [zR b, zI k, zI t, zI (m (b + 2) (59 + 5 * k + 0)), zI (m (b + 2) (59 + 5 * k + 4)), zI (u + (m (b + 2) (59 + 5 * i + 4))), zI l, zI (i + 1), zU]) ?_ ⟨Or.inr rfl, Or.inr rfl, Or.inr rfl, Or.inr rfl, Or.inr rfl, Or.inr rfl, Or.inr rfl, Or.inr rfl, Or.inl rfl, trivial⟩
                  exact ih26 _ _ _ (by first | assumption | exact zq_i _ | exact zand_i _ _ | exact zor_i _ _ | exact zxor_i _ _ | exact zN _ | omega) (by first | assumption | exact zq_i _ | exact zand_i _ _ | exact zor_i _ _ | exact zxor_i _ _ | exact zN _ | omega) (by exact acnt_z i0 hw1 (by rw [aW1_i]; omega)) (by first | (rw [ahad_f i0 (by omega)]; omega) | (rw [ahad_t i0 (by omega) (by omega)]; omega)) (by first | exact aWI_a i0 hl (by omega) | exact aWI_b i0 (by omega) (by omega) (by omega) | exact aWI_c i0 hl (by omega) (by omega) (by omega) (by omega) (by omega) (by omega) | exact aWI_d i0 hl (by omega) (by omega) (by omega) (by omega)) (by omega)
                · refine zT.iload 6 dX13_wrong_134 rfl ?_
                  refine zT.iconst dX13_wrong_136 ?_
                  refine zT.ic_le (tgt := 201) dX13_wrong_137 (by decide) (by first | assumption | exact zq_i _ | exact zand_i _ _ | exact zor_i _ _ | exact zxor_i _ _ | exact zN _ | omega) (by first | assumption | exact zq_i _ | exact zand_i _ _ | exact zor_i _ _ | exact zxor_i _ _ | exact zN _ | omega) (fun c137 => ?_) (fun c137 => ?_)
                  · refine zT.iinc 7 dX13_wrong_201 rfl (by decide) (zpre1 rfl (zcI _)) ?_
                    show zT G _ _ _ [zR b, zI k, zI t, zI (m (b + 2) (59 + 5 * k + 0)), zI (m (b + 2) (59 + 5 * k + 4)), zI (u + (m (b + 2) (59 + 5 * i + 4))), zI l, zI (i + 1), zI (zq (t < (m (b + 2) (59 + 5 * i + 2)) + (m (b + 2) (59 + 5 * i + 4)) ∧ (m (b + 2) (59 + 5 * i + 2)) < t + (m (b + 2) (59 + 5 * k + 4))))] _ _ _ _ _ _ _
                    refine zT.goto (tgt := 26) dX13_wrong_204 (by decide) ?_
                    refine zT.loc (V' := [zR b, zI k, zI t, zI (m (b + 2) (59 + 5 * k + 0)), zI (m (b + 2) (59 + 5 * k + 4)), zI (u + (m (b + 2) (59 + 5 * i + 4))), zI l, zI (i + 1), zU]) ?_ ⟨Or.inr rfl, Or.inr rfl, Or.inr rfl, Or.inr rfl, Or.inr rfl, Or.inr rfl, Or.inr rfl, Or.inr rfl, Or.inl rfl, trivial⟩
                    exact ih26 _ _ _ (by first | assumption | exact zq_i _ | exact zand_i _ _ | exact zor_i _ _ | exact zxor_i _ _ | exact zN _ | omega) (by first | assumption | exact zq_i _ | exact zand_i _ _ | exact zor_i _ _ | exact zxor_i _ _ | exact zN _ | omega) (by exact acnt_z i0 hw1 (by rw [aW1_i]; omega)) (by first | (rw [ahad_f i0 (by omega)]; omega) | (rw [ahad_t i0 (by omega) (by omega)]; omega)) (by first | exact aWI_a i0 hl (by omega) | exact aWI_b i0 (by omega) (by omega) (by omega) | exact aWI_c i0 hl (by omega) (by omega) (by omega) (by omega) (by omega) (by omega) | exact aWI_d i0 hl (by omega) (by omega) (by omega) (by omega)) (by omega)
                  · refine zT.iconst dX13_wrong_140 ?_
                    refine zT.istore 6 dX13_wrong_141 (by decide) (zpre1 rfl (zcI _)) ?_
                    show zT G _ _ _ [zR b, zI k, zI t, zI (m (b + 2) (59 + 5 * k + 0)), zI (m (b + 2) (59 + 5 * k + 4)), zI (u + (m (b + 2) (59 + 5 * i + 4))), zI 4, zI i, zI (zq (t < (m (b + 2) (59 + 5 * i + 2)) + (m (b + 2) (59 + 5 * i + 4)) ∧ (m (b + 2) (59 + 5 * i + 2)) < t + (m (b + 2) (59 + 5 * k + 4))))] _ _ _ _ _ _ _
                    refine zT.goto (tgt := 201) dX13_wrong_143 (by decide) ?_
                    refine zT.iinc 7 dX13_wrong_201 rfl (by decide) (zpre1 rfl (zcI _)) ?_
                    show zT G _ _ _ [zR b, zI k, zI t, zI (m (b + 2) (59 + 5 * k + 0)), zI (m (b + 2) (59 + 5 * k + 4)), zI (u + (m (b + 2) (59 + 5 * i + 4))), zI 4, zI (i + 1), zI (zq (t < (m (b + 2) (59 + 5 * i + 2)) + (m (b + 2) (59 + 5 * i + 4)) ∧ (m (b + 2) (59 + 5 * i + 2)) < t + (m (b + 2) (59 + 5 * k + 4))))] _ _ _ _ _ _ _
                    refine zT.goto (tgt := 26) dX13_wrong_204 (by decide) ?_
                    refine zT.loc (V' := [zR b, zI k, zI t, zI (m (b + 2) (59 + 5 * k + 0)), zI (m (b + 2) (59 + 5 * k + 4)), zI (u + (m (b + 2) (59 + 5 * i + 4))), zI 4, zI (i + 1), zU]) ?_ ⟨Or.inr rfl, Or.inr rfl, Or.inr rfl, Or.inr rfl, Or.inr rfl, Or.inr rfl, Or.inr rfl, Or.inr rfl, Or.inl rfl, trivial⟩
                    exact ih26 _ _ _ (by first | assumption | exact zq_i _ | exact zand_i _ _ | exact zor_i _ _ | exact zxor_i _ _ | exact zN _ | omega) (by first | assumption | exact zq_i _ | exact zand_i _ _ | exact zor_i _ _ | exact zxor_i _ _ | exact zN _ | omega) (by exact acnt_z i0 hw1 (by rw [aW1_i]; omega)) (by first | (rw [ahad_f i0 (by omega)]; omega) | (rw [ahad_t i0 (by omega) (by omega)]; omega)) (by first | exact aWI_a i0 hl (by omega) | exact aWI_b i0 (by omega) (by omega) (by omega) | exact aWI_c i0 hl (by omega) (by omega) (by omega) (by omega) (by omega) (by omega) | exact aWI_d i0 hl (by omega) (by omega) (by omega) (by omega)) (by omega)
            · refine zT.iconst dX13_wrong_95 ?_
              refine zT.istore 6 dX13_wrong_96 (by decide) (zpre1 rfl (zcI _)) ?_
              show zT G _ _ _ [zR b, zI k, zI t, zI (m (b + 2) (59 + 5 * k + 0)), zI (m (b + 2) (59 + 5 * k + 4)), zI u, zI 2, zI i, zI (zq (t < (m (b + 2) (59 + 5 * i + 2)) + (m (b + 2) (59 + 5 * i + 4)) ∧ (m (b + 2) (59 + 5 * i + 2)) < t + (m (b + 2) (59 + 5 * k + 4))))] _ _ _ _ _ _ _
              refine zT.aload_n 0 dX13_wrong_98 rfl rfl ?_
              refine zT.iload 7 dX13_wrong_99 rfl ?_
              refine zT.iconst dX13_wrong_101 ?_
              refine zT.callV (M' := mX13_go5) (b := b) [zI i, zI 1] [] dX13_wrong_102 kX13_280 rfl rfl (ci := 10) (r := (RX13, TX13, 62)) rfl (zMod.k hb) (C_X13_go5 hb (by first | assumption | exact zq_i _ | exact zand_i _ _ | exact zor_i _ _ | exact zxor_i _ _ | exact zN _ | omega) (by first | assumption | exact zq_i _ | exact zand_i _ _ | exact zor_i _ _ | exact zxor_i _ _ | exact zN _ | omega)) (by decide) (k' := 0) (n' := 0) (by omega) (by omega) (by decide) (zdk (v := some (zI (m (b + 2) (59 + 5 * i + 1)))) ?_) (fun _ _ _ _ h => h.elim)
              show zT G _ _ _ _ [zI (m (b + 2) (59 + 5 * i + 1))] _ _ _ _ _ _
              refine zT.aload_n 0 dX13_wrong_105 rfl rfl ?_
              refine zT.iload_n 1 dX13_wrong_106 rfl rfl ?_
              refine zT.iconst dX13_wrong_107 ?_
              refine zT.callV (M' := mX13_go5) (b := b) [zI k, zI 1] [zI (m (b + 2) (59 + 5 * i + 1))] dX13_wrong_108 kX13_280 rfl rfl (ci := 10) (r := (RX13, TX13, 62)) rfl (zMod.k hb) (C_X13_go5 hb (by first | assumption | exact zq_i _ | exact zand_i _ _ | exact zor_i _ _ | exact zxor_i _ _ | exact zN _ | omega) (by first | assumption | exact zq_i _ | exact zand_i _ _ | exact zor_i _ _ | exact zxor_i _ _ | exact zN _ | omega)) (by decide) (k' := 0) (n' := 0) (by omega) (by omega) (by simp only [List.map, zcI, zcJ, zcR, List.sum_cons, List.sum_nil]; decide) (zdk (v := some (zI (m (b + 2) (59 + 5 * k + 1)))) ?_) (fun _ _ _ _ h => h.elim)
              show zT G _ _ _ _ [zI (m (b + 2) (59 + 5 * k + 1)), zI (m (b + 2) (59 + 5 * i + 1))] _ _ _ _ _ _
              refine zT.ic_ne (tgt := 146) dX13_wrong_111 (by decide) (by first | assumption | exact zq_i _ | exact zand_i _ _ | exact zor_i _ _ | exact zxor_i _ _ | exact zN _ | omega) (by first | assumption | exact zq_i _ | exact zand_i _ _ | exact zor_i _ _ | exact zxor_i _ _ | exact zN _ | omega) (fun c111 => ?_) (fun c111 => ?_)
              · refine zT.iload 8 dX13_wrong_146 rfl ?_
                refine zT.if_neB (tgt := 201) dX13_wrong_148 (by decide) (fun c148 => ?_) (fun c148 => ?_)
                · refine zT.iinc 7 dX13_wrong_201 rfl (by decide) (zpre1 rfl (zcI _)) ?_
                  show zT G _ _ _ [zR b, zI k, zI t, zI (m (b + 2) (59 + 5 * k + 0)), zI (m (b + 2) (59 + 5 * k + 4)), zI u, zI 2, zI (i + 1), zI (zq (t < (m (b + 2) (59 + 5 * i + 2)) + (m (b + 2) (59 + 5 * i + 4)) ∧ (m (b + 2) (59 + 5 * i + 2)) < t + (m (b + 2) (59 + 5 * k + 4))))] _ _ _ _ _ _ _
                  refine zT.goto (tgt := 26) dX13_wrong_204 (by decide) ?_
                  refine zT.loc (V' := [zR b, zI k, zI t, zI (m (b + 2) (59 + 5 * k + 0)), zI (m (b + 2) (59 + 5 * k + 4)), zI u, zI 2, zI (i + 1), zU]) ?_ ⟨Or.inr rfl, Or.inr rfl, Or.inr rfl, Or.inr rfl, Or.inr rfl, Or.inr rfl, Or.inr rfl, Or.inr rfl, Or.inl rfl, trivial⟩
                  exact ih26 _ _ _ (by first | assumption | exact zq_i _ | exact zand_i _ _ | exact zor_i _ _ | exact zxor_i _ _ | exact zN _ | omega) (by first | assumption | exact zq_i _ | exact zand_i _ _ | exact zor_i _ _ | exact zxor_i _ _ | exact zN _ | omega) (by exact acnt_z i0 hw1 (by rw [aW1_i]; omega)) (by first | (rw [ahad_f i0 (by omega)]; omega) | (rw [ahad_t i0 (by omega) (by omega)]; omega)) (by first | exact aWI_a i0 hl (by omega) | exact aWI_b i0 (by omega) (by omega) (by omega) | exact aWI_c i0 hl (by omega) (by omega) (by omega) (by omega) (by omega) (by omega) | exact aWI_d i0 hl (by omega) (by omega) (by omega) (by omega)) (by omega)
                · refine zT.iload_n 2 dX13_wrong_151 rfl rfl ?_
                  refine zT.aload_n 0 dX13_wrong_152 rfl rfl ?_
                  refine zT.iload 7 dX13_wrong_153 rfl ?_
                  refine zT.callV (M' := mX13_from) (b := b) [zI i] [zI t] dX13_wrong_155 kX13_297 rfl rfl (ci := 10) (r := (RX13, TX13, 62)) rfl (zMod.k hb) (C_X13_from hb (by first | assumption | exact zq_i _ | exact zand_i _ _ | exact zor_i _ _ | exact zxor_i _ _ | exact zN _ | omega)) (by decide) (k' := 0) (n' := 0) (by omega) (by omega) (by simp only [List.map, zcI, zcJ, zcR, List.sum_cons, List.sum_nil]; decide) (zdk (v := some (zI (m (b + 2) (59 + 5 * i + 2)))) ?_) (fun _ _ _ _ h => h.elim)
                  show zT G _ _ _ _ [zI (m (b + 2) (59 + 5 * i + 2)), zI t] _ _ _ _ _ _
                  refine zT.ic_le (tgt := 172) dX13_wrong_158 (by decide) (by first | assumption | exact zq_i _ | exact zand_i _ _ | exact zor_i _ _ | exact zxor_i _ _ | exact zN _ | omega) (by first | assumption | exact zq_i _ | exact zand_i _ _ | exact zor_i _ _ | exact zxor_i _ _ | exact zN _ | omega) (fun c158 => ?_) (fun c158 => ?_)
                  · refine zT.aload_n 0 dX13_wrong_172 rfl rfl ?_
                    refine zT.iload 7 dX13_wrong_173 rfl ?_
                    refine zT.callV (M' := mX13_from) (b := b) [zI i] [] dX13_wrong_175 kX13_297 rfl rfl (ci := 10) (r := (RX13, TX13, 62)) rfl (zMod.k hb) (C_X13_from hb (by first | assumption | exact zq_i _ | exact zand_i _ _ | exact zor_i _ _ | exact zxor_i _ _ | exact zN _ | omega)) (by decide) (k' := 0) (n' := 0) (by omega) (by omega) (by decide) (zdk (v := some (zI (m (b + 2) (59 + 5 * i + 2)))) ?_) (fun _ _ _ _ h => h.elim)
                    show zT G _ _ _ _ [zI (m (b + 2) (59 + 5 * i + 2))] _ _ _ _ _ _
                    refine zT.iload_n 2 dX13_wrong_178 rfl rfl ?_
                    refine zT.isub dX13_wrong_179 ?_
                    refine zT.iload 4 dX13_wrong_180 rfl ?_
                    refine zT.isub dX13_wrong_182 ?_
                    refine zT.aload_n 0 dX13_wrong_183 rfl rfl ?_
                    refine zT.getF dX13_wrong_184 fX13_13 rfl (zMod.k hb) (j := 14) (by decide) rfl (zMod.f1014 hb) ?_
                    refine zT.iconst dX13_wrong_187 ?_
                    refine zT.iald dX13_wrong_188 (zMod.a1014 hb) (by first | assumption | exact zq_i _ | exact zand_i _ _ | exact zor_i _ _ | exact zxor_i _ _ | exact zN _ | omega) (by rw [(zMod.n1014 hb)]; first | assumption | exact zq_i _ | exact zand_i _ _ | exact zor_i _ _ | exact zxor_i _ _ | exact zN _ | omega) (fun z188 => ?_)
                    refine zT.ic_ge (tgt := 201) dX13_wrong_189 (by decide) (by first | assumption | exact zq_i _ | exact zand_i _ _ | exact zor_i _ _ | exact zxor_i _ _ | exact zN _ | omega) (by first | assumption | exact zq_i _ | exact zand_i _ _ | exact zor_i _ _ | exact zxor_i _ _ | exact zN _ | omega) (fun c189 => ?_) (fun c189 => ?_)
                    · refine zT.iinc 7 dX13_wrong_201 rfl (by decide) (zpre1 rfl (zcI _)) ?_
                      show zT G _ _ _ [zR b, zI k, zI t, zI (m (b + 2) (59 + 5 * k + 0)), zI (m (b + 2) (59 + 5 * k + 4)), zI u, zI 2, zI (i + 1), zI (zq (t < (m (b + 2) (59 + 5 * i + 2)) + (m (b + 2) (59 + 5 * i + 4)) ∧ (m (b + 2) (59 + 5 * i + 2)) < t + (m (b + 2) (59 + 5 * k + 4))))] _ _ _ _ _ _ _
                      refine zT.goto (tgt := 26) dX13_wrong_204 (by decide) ?_
                      refine zT.loc (V' := [zR b, zI k, zI t, zI (m (b + 2) (59 + 5 * k + 0)), zI (m (b + 2) (59 + 5 * k + 4)), zI u, zI 2, zI (i + 1), zU]) ?_ ⟨Or.inr rfl, Or.inr rfl, Or.inr rfl, Or.inr rfl, Or.inr rfl, Or.inr rfl, Or.inr rfl, Or.inr rfl, Or.inl rfl, trivial⟩
                      exact ih26 _ _ _ (by first | assumption | exact zq_i _ | exact zand_i _ _ | exact zor_i _ _ | exact zxor_i _ _ | exact zN _ | omega) (by first | assumption | exact zq_i _ | exact zand_i _ _ | exact zor_i _ _ | exact zxor_i _ _ | exact zN _ | omega) (by exact acnt_z i0 hw1 (by rw [aW1_i]; omega)) (by first | (rw [ahad_f i0 (by omega)]; omega) | (rw [ahad_t i0 (by omega) (by omega)]; omega)) (by first | exact aWI_a i0 hl (by omega) | exact aWI_b i0 (by omega) (by omega) (by omega) | exact aWI_c i0 hl (by omega) (by omega) (by omega) (by omega) (by omega) (by omega) | exact aWI_d i0 hl (by omega) (by omega) (by omega) (by omega)) (by omega)
                    · refine zT.iload 6 dX13_wrong_192 rfl ?_
                      refine zT.iconst dX13_wrong_194 ?_
                      refine zT.ic_le (tgt := 201) dX13_wrong_195 (by decide) (by first | assumption | exact zq_i _ | exact zand_i _ _ | exact zor_i _ _ | exact zxor_i _ _ | exact zN _ | omega) (by first | assumption | exact zq_i _ | exact zand_i _ _ | exact zor_i _ _ | exact zxor_i _ _ | exact zN _ | omega) (fun c195 => ?_) (fun c195 => absurd c195 (by decide))
                      refine zT.iinc 7 dX13_wrong_201 rfl (by decide) (zpre1 rfl (zcI _)) ?_
                      show zT G _ _ _ [zR b, zI k, zI t, zI (m (b + 2) (59 + 5 * k + 0)), zI (m (b + 2) (59 + 5 * k + 4)), zI u, zI 2, zI (i + 1), zI (zq (t < (m (b + 2) (59 + 5 * i + 2)) + (m (b + 2) (59 + 5 * i + 4)) ∧ (m (b + 2) (59 + 5 * i + 2)) < t + (m (b + 2) (59 + 5 * k + 4))))] _ _ _ _ _ _ _
                      refine zT.goto (tgt := 26) dX13_wrong_204 (by decide) ?_
                      refine zT.loc (V' := [zR b, zI k, zI t, zI (m (b + 2) (59 + 5 * k + 0)), zI (m (b + 2) (59 + 5 * k + 4)), zI u, zI 2, zI (i + 1), zU]) ?_ ⟨Or.inr rfl, Or.inr rfl, Or.inr rfl, Or.inr rfl, Or.inr rfl, Or.inr rfl, Or.inr rfl, Or.inr rfl, Or.inl rfl, trivial⟩
                      exact ih26 _ _ _ (by first | assumption | exact zq_i _ | exact zand_i _ _ | exact zor_i _ _ | exact zxor_i _ _ | exact zN _ | omega) (by first | assumption | exact zq_i _ | exact zand_i _ _ | exact zor_i _ _ | exact zxor_i _ _ | exact zN _ | omega) (by exact acnt_z i0 hw1 (by rw [aW1_i]; omega)) (by first | (rw [ahad_f i0 (by omega)]; omega) | (rw [ahad_t i0 (by omega) (by omega)]; omega)) (by first | exact aWI_a i0 hl (by omega) | exact aWI_b i0 (by omega) (by omega) (by omega) | exact aWI_c i0 hl (by omega) (by omega) (by omega) (by omega) (by omega) (by omega) | exact aWI_d i0 hl (by omega) (by omega) (by omega) (by omega)) (by omega)
                  · refine zT.iload_n 2 dX13_wrong_161 rfl rfl ?_
                    refine zT.aload_n 0 dX13_wrong_162 rfl rfl ?_
                    refine zT.iload 7 dX13_wrong_163 rfl ?_
                    refine zT.callV (M' := mX13_behind) (b := b) [zI i] [zI t] dX13_wrong_165 kX13_306 rfl rfl (ci := 10) (r := (RX13, TX13, 62)) rfl (zMod.k hb) (C_X13_behind hb (by first | assumption | exact zq_i _ | exact zand_i _ _ | exact zor_i _ _ | exact zxor_i _ _ | exact zN _ | omega)) (by decide) (k' := 0) (n' := 0) (by omega) (by omega) (by simp only [List.map, zcI, zcJ, zcR, List.sum_cons, List.sum_nil]; decide) (zdk (v := some (zI (m (b + 2) (59 + 5 * i + 2) + m (b + 2) (59 + 5 * i + 4)))) ?_) (fun _ _ _ _ h => h.elim)
                    show zT G _ _ _ _ [zI (m (b + 2) (59 + 5 * i + 2) + m (b + 2) (59 + 5 * i + 4)), zI t] _ _ _ _ _ _
                    refine zT.isub dX13_wrong_168 ?_
                    refine zT.goto (tgt := 183) dX13_wrong_169 (by decide) ?_
                    refine zT.aload_n 0 dX13_wrong_183 rfl rfl ?_
                    refine zT.getF dX13_wrong_184 fX13_13 rfl (zMod.k hb) (j := 14) (by decide) rfl (zMod.f1014 hb) ?_
                    refine zT.iconst dX13_wrong_187 ?_
                    refine zT.iald dX13_wrong_188 (zMod.a1014 hb) (by first | assumption | exact zq_i _ | exact zand_i _ _ | exact zor_i _ _ | exact zxor_i _ _ | exact zN _ | omega) (by rw [(zMod.n1014 hb)]; first | assumption | exact zq_i _ | exact zand_i _ _ | exact zor_i _ _ | exact zxor_i _ _ | exact zN _ | omega) (fun z188 => ?_)
                    refine zT.ic_ge (tgt := 201) dX13_wrong_189 (by decide) (by first | assumption | exact zq_i _ | exact zand_i _ _ | exact zor_i _ _ | exact zxor_i _ _ | exact zN _ | omega) (by first | assumption | exact zq_i _ | exact zand_i _ _ | exact zor_i _ _ | exact zxor_i _ _ | exact zN _ | omega) (fun c189 => ?_) (fun c189 => ?_)
                    · refine zT.iinc 7 dX13_wrong_201 rfl (by decide) (zpre1 rfl (zcI _)) ?_
                      show zT G _ _ _ [zR b, zI k, zI t, zI (m (b + 2) (59 + 5 * k + 0)), zI (m (b + 2) (59 + 5 * k + 4)), zI u, zI 2, zI (i + 1), zI (zq (t < (m (b + 2) (59 + 5 * i + 2)) + (m (b + 2) (59 + 5 * i + 4)) ∧ (m (b + 2) (59 + 5 * i + 2)) < t + (m (b + 2) (59 + 5 * k + 4))))] _ _ _ _ _ _ _
                      refine zT.goto (tgt := 26) dX13_wrong_204 (by decide) ?_
                      refine zT.loc (V' := [zR b, zI k, zI t, zI (m (b + 2) (59 + 5 * k + 0)), zI (m (b + 2) (59 + 5 * k + 4)), zI u, zI 2, zI (i + 1), zU]) ?_ ⟨Or.inr rfl, Or.inr rfl, Or.inr rfl, Or.inr rfl, Or.inr rfl, Or.inr rfl, Or.inr rfl, Or.inr rfl, Or.inl rfl, trivial⟩
                      exact ih26 _ _ _ (by first | assumption | exact zq_i _ | exact zand_i _ _ | exact zor_i _ _ | exact zxor_i _ _ | exact zN _ | omega) (by first | assumption | exact zq_i _ | exact zand_i _ _ | exact zor_i _ _ | exact zxor_i _ _ | exact zN _ | omega) (by exact acnt_z i0 hw1 (by rw [aW1_i]; omega)) (by first | (rw [ahad_f i0 (by omega)]; omega) | (rw [ahad_t i0 (by omega) (by omega)]; omega)) (by first | exact aWI_a i0 hl (by omega) | exact aWI_b i0 (by omega) (by omega) (by omega) | exact aWI_c i0 hl (by omega) (by omega) (by omega) (by omega) (by omega) (by omega) | exact aWI_d i0 hl (by omega) (by omega) (by omega) (by omega)) (by omega)
                    · refine zT.iload 6 dX13_wrong_192 rfl ?_
                      refine zT.iconst dX13_wrong_194 ?_
                      refine zT.ic_le (tgt := 201) dX13_wrong_195 (by decide) (by first | assumption | exact zq_i _ | exact zand_i _ _ | exact zor_i _ _ | exact zxor_i _ _ | exact zN _ | omega) (by first | assumption | exact zq_i _ | exact zand_i _ _ | exact zor_i _ _ | exact zxor_i _ _ | exact zN _ | omega) (fun c195 => ?_) (fun c195 => absurd c195 (by decide))
                      refine zT.iinc 7 dX13_wrong_201 rfl (by decide) (zpre1 rfl (zcI _)) ?_
                      show zT G _ _ _ [zR b, zI k, zI t, zI (m (b + 2) (59 + 5 * k + 0)), zI (m (b + 2) (59 + 5 * k + 4)), zI u, zI 2, zI (i + 1), zI (zq (t < (m (b + 2) (59 + 5 * i + 2)) + (m (b + 2) (59 + 5 * i + 4)) ∧ (m (b + 2) (59 + 5 * i + 2)) < t + (m (b + 2) (59 + 5 * k + 4))))] _ _ _ _ _ _ _
                      refine zT.goto (tgt := 26) dX13_wrong_204 (by decide) ?_
                      refine zT.loc (V' := [zR b, zI k, zI t, zI (m (b + 2) (59 + 5 * k + 0)), zI (m (b + 2) (59 + 5 * k + 4)), zI u, zI 2, zI (i + 1), zU]) ?_ ⟨Or.inr rfl, Or.inr rfl, Or.inr rfl, Or.inr rfl, Or.inr rfl, Or.inr rfl, Or.inr rfl, Or.inr rfl, Or.inl rfl, trivial⟩
                      exact ih26 _ _ _ (by first | assumption | exact zq_i _ | exact zand_i _ _ | exact zor_i _ _ | exact zxor_i _ _ | exact zN _ | omega) (by first | assumption | exact zq_i _ | exact zand_i _ _ | exact zor_i _ _ | exact zxor_i _ _ | exact zN _ | omega) (by exact acnt_z i0 hw1 (by rw [aW1_i]; omega)) (by first | (rw [ahad_f i0 (by omega)]; omega) | (rw [ahad_t i0 (by omega) (by omega)]; omega)) (by first | exact aWI_a i0 hl (by omega) | exact aWI_b i0 (by omega) (by omega) (by omega) | exact aWI_c i0 hl (by omega) (by omega) (by omega) (by omega) (by omega) (by omega) | exact aWI_d i0 hl (by omega) (by omega) (by omega) (by omega)) (by omega)
              · refine zT.iload 5 dX13_wrong_114 rfl ?_
                refine zT.aload_n 0 dX13_wrong_116 rfl rfl ?_
                refine zT.iload 7 dX13_wrong_117 rfl ?_
                refine zT.iconst dX13_wrong_119 ?_
                refine zT.callV (M' := mX13_go5) (b := b) [zI i, zI 4] [zI u] dX13_wrong_120 kX13_280 rfl rfl (ci := 10) (r := (RX13, TX13, 62)) rfl (zMod.k hb) (C_X13_go5 hb (by first | assumption | exact zq_i _ | exact zand_i _ _ | exact zor_i _ _ | exact zxor_i _ _ | exact zN _ | omega) (by first | assumption | exact zq_i _ | exact zand_i _ _ | exact zor_i _ _ | exact zxor_i _ _ | exact zN _ | omega)) (by decide) (k' := 0) (n' := 0) (by omega) (by omega) (by simp only [List.map, zcI, zcJ, zcR, List.sum_cons, List.sum_nil]; decide) (zdk (v := some (zI (m (b + 2) (59 + 5 * i + 4)))) ?_) (fun _ _ _ _ h => h.elim)
                show zT G _ _ _ _ [zI (m (b + 2) (59 + 5 * i + 4)), zI u] _ _ _ _ _ _
                refine zT.iadd dX13_wrong_123 ?_
                refine zT.istore 5 dX13_wrong_124 (by decide) (zpre1 rfl (zcI _)) ?_
                show zT G _ _ _ [zR b, zI k, zI t, zI (m (b + 2) (59 + 5 * k + 0)), zI (m (b + 2) (59 + 5 * k + 4)), zI (u + (m (b + 2) (59 + 5 * i + 4))), zI 2, zI i, zI (zq (t < (m (b + 2) (59 + 5 * i + 2)) + (m (b + 2) (59 + 5 * i + 4)) ∧ (m (b + 2) (59 + 5 * i + 2)) < t + (m (b + 2) (59 + 5 * k + 4))))] _ _ _ _ _ _ _
                refine zT.aload_n 0 dX13_wrong_126 rfl rfl ?_
                refine zT.iload_n 3 dX13_wrong_127 rfl rfl ?_
                refine zT.callV (M' := mX13_isOnce) (b := b) [zI (m (b + 2) (59 + 5 * k + 0))] [] dX13_wrong_128 kX13_303 rfl rfl (ci := 10) (r := (RX13, TX13, 62)) rfl (zMod.k hb) (C_X13_isOnce hb (by first | assumption | exact zq_i _ | exact zand_i _ _ | exact zor_i _ _ | exact zxor_i _ _ | exact zN _ | omega)) (by decide) (k' := 0) (n' := 0) (by omega) (by omega) (by decide) (zdk (v := some (zI (zq (0 < m (b + 2) (8 + 3 * (m (b + 2) (59 + 5 * k + 0)) + 2))))) ?_) (fun _ _ _ _ h => h.elim)
                show zT G _ _ _ _ [zI (zq (0 < m (b + 2) (8 + 3 * (m (b + 2) (59 + 5 * k + 0)) + 2)))] _ _ _ _ _ _
                refine zT.if_eqB (tgt := 201) dX13_wrong_131 (by decide) (fun c131 => ?_) (fun c131 => ?_)
                · refine zT.iinc 7 dX13_wrong_201 rfl (by decide) (zpre1 rfl (zcI _)) ?_
                  show zT G _ _ _ [zR b, zI k, zI t, zI (m (b + 2) (59 + 5 * k + 0)), zI (m (b + 2) (59 + 5 * k + 4)), zI (u + (m (b + 2) (59 + 5 * i + 4))), zI 2, zI (i + 1), zI (zq (t < (m (b + 2) (59 + 5 * i + 2)) + (m (b + 2) (59 + 5 * i + 4)) ∧ (m (b + 2) (59 + 5 * i + 2)) < t + (m (b + 2) (59 + 5 * k + 4))))] _ _ _ _ _ _ _
                  refine zT.goto (tgt := 26) dX13_wrong_204 (by decide) ?_
                  refine zT.loc (V' := [zR b, zI k, zI t, zI (m (b + 2) (59 + 5 * k + 0)), zI (m (b + 2) (59 + 5 * k + 4)), zI (u + (m (b + 2) (59 + 5 * i + 4))), zI 2, zI (i + 1), zU]) ?_ ⟨Or.inr rfl, Or.inr rfl, Or.inr rfl, Or.inr rfl, Or.inr rfl, Or.inr rfl, Or.inr rfl, Or.inr rfl, Or.inl rfl, trivial⟩
                  exact ih26 _ _ _ (by first | assumption | exact zq_i _ | exact zand_i _ _ | exact zor_i _ _ | exact zxor_i _ _ | exact zN _ | omega) (by first | assumption | exact zq_i _ | exact zand_i _ _ | exact zor_i _ _ | exact zxor_i _ _ | exact zN _ | omega) (by exact acnt_z i0 hw1 (by rw [aW1_i]; omega)) (by first | (rw [ahad_f i0 (by omega)]; omega) | (rw [ahad_t i0 (by omega) (by omega)]; omega)) (by first | exact aWI_a i0 hl (by omega) | exact aWI_b i0 (by omega) (by omega) (by omega) | exact aWI_c i0 hl (by omega) (by omega) (by omega) (by omega) (by omega) (by omega) | exact aWI_d i0 hl (by omega) (by omega) (by omega) (by omega)) (by omega)
                · refine zT.iload 6 dX13_wrong_134 rfl ?_
                  refine zT.iconst dX13_wrong_136 ?_
                  refine zT.ic_le (tgt := 201) dX13_wrong_137 (by decide) (by first | assumption | exact zq_i _ | exact zand_i _ _ | exact zor_i _ _ | exact zxor_i _ _ | exact zN _ | omega) (by first | assumption | exact zq_i _ | exact zand_i _ _ | exact zor_i _ _ | exact zxor_i _ _ | exact zN _ | omega) (fun c137 => ?_) (fun c137 => absurd c137 (by decide))
                  refine zT.iinc 7 dX13_wrong_201 rfl (by decide) (zpre1 rfl (zcI _)) ?_
                  show zT G _ _ _ [zR b, zI k, zI t, zI (m (b + 2) (59 + 5 * k + 0)), zI (m (b + 2) (59 + 5 * k + 4)), zI (u + (m (b + 2) (59 + 5 * i + 4))), zI 2, zI (i + 1), zI (zq (t < (m (b + 2) (59 + 5 * i + 2)) + (m (b + 2) (59 + 5 * i + 4)) ∧ (m (b + 2) (59 + 5 * i + 2)) < t + (m (b + 2) (59 + 5 * k + 4))))] _ _ _ _ _ _ _
                  refine zT.goto (tgt := 26) dX13_wrong_204 (by decide) ?_
                  refine zT.loc (V' := [zR b, zI k, zI t, zI (m (b + 2) (59 + 5 * k + 0)), zI (m (b + 2) (59 + 5 * k + 4)), zI (u + (m (b + 2) (59 + 5 * i + 4))), zI 2, zI (i + 1), zU]) ?_ ⟨Or.inr rfl, Or.inr rfl, Or.inr rfl, Or.inr rfl, Or.inr rfl, Or.inr rfl, Or.inr rfl, Or.inr rfl, Or.inl rfl, trivial⟩
                  exact ih26 _ _ _ (by first | assumption | exact zq_i _ | exact zand_i _ _ | exact zor_i _ _ | exact zxor_i _ _ | exact zN _ | omega) (by first | assumption | exact zq_i _ | exact zand_i _ _ | exact zor_i _ _ | exact zxor_i _ _ | exact zN _ | omega) (by exact acnt_z i0 hw1 (by rw [aW1_i]; omega)) (by first | (rw [ahad_f i0 (by omega)]; omega) | (rw [ahad_t i0 (by omega) (by omega)]; omega)) (by first | exact aWI_a i0 hl (by omega) | exact aWI_b i0 (by omega) (by omega) (by omega) | exact aWI_c i0 hl (by omega) (by omega) (by omega) (by omega) (by omega) (by omega) | exact aWI_d i0 hl (by omega) (by omega) (by omega) (by omega)) (by omega)
          · refine zT.goto (tgt := 201) dX13_wrong_87 (by decide) ?_
            refine zT.iinc 7 dX13_wrong_201 rfl (by decide) (zpre1 rfl (zcI _)) ?_
            show zT G _ _ _ [zR b, zI k, zI t, zI (m (b + 2) (59 + 5 * k + 0)), zI (m (b + 2) (59 + 5 * k + 4)), zI u, zI l, zI (i + 1), zI (zq (t < (m (b + 2) (59 + 5 * i + 2)) + (m (b + 2) (59 + 5 * i + 4)) ∧ (m (b + 2) (59 + 5 * i + 2)) < t + (m (b + 2) (59 + 5 * k + 4))))] _ _ _ _ _ _ _
            refine zT.goto (tgt := 26) dX13_wrong_204 (by decide) ?_
            refine zT.loc (V' := [zR b, zI k, zI t, zI (m (b + 2) (59 + 5 * k + 0)), zI (m (b + 2) (59 + 5 * k + 4)), zI u, zI l, zI (i + 1), zU]) ?_ ⟨Or.inr rfl, Or.inr rfl, Or.inr rfl, Or.inr rfl, Or.inr rfl, Or.inr rfl, Or.inr rfl, Or.inr rfl, Or.inl rfl, trivial⟩
            exact ih26 _ _ _ (by first | assumption | exact zq_i _ | exact zand_i _ _ | exact zor_i _ _ | exact zxor_i _ _ | exact zN _ | omega) (by first | assumption | exact zq_i _ | exact zand_i _ _ | exact zor_i _ _ | exact zxor_i _ _ | exact zN _ | omega) (by exact acnt_z i0 hw1 (by rw [aW1_i]; omega)) (by first | (rw [ahad_f i0 (by omega)]; omega) | (rw [ahad_t i0 (by omega) (by omega)]; omega)) (by first | exact aWI_a i0 hl (by omega) | exact aWI_b i0 (by omega) (by omega) (by omega) | exact aWI_c i0 hl (by omega) (by omega) (by omega) (by omega) (by omega) (by omega) | exact aWI_d i0 hl (by omega) (by omega) (by omega) (by omega)) (by omega)
        · refine zT.aload_n 0 dX13_wrong_58 rfl rfl ?_
          refine zT.iload 7 dX13_wrong_59 rfl ?_
          refine zT.iconst dX13_wrong_61 ?_
          refine zT.callV (M' := mX13_go5) (b := b) [zI i, zI 3] [] dX13_wrong_62 kX13_280 rfl rfl (ci := 10) (r := (RX13, TX13, 62)) rfl (zMod.k hb) (C_X13_go5 hb (by first | assumption | exact zq_i _ | exact zand_i _ _ | exact zor_i _ _ | exact zxor_i _ _ | exact zN _ | omega) (by first | assumption | exact zq_i _ | exact zand_i _ _ | exact zor_i _ _ | exact zxor_i _ _ | exact zN _ | omega)) (by decide) (k' := 0) (n' := 0) (by omega) (by omega) (by decide) (zdk (v := some (zI (m (b + 2) (59 + 5 * i + 3)))) ?_) (fun _ _ _ _ h => h.elim)
          show zT G _ _ _ _ [zI (m (b + 2) (59 + 5 * i + 3))] _ _ _ _ _ _
          refine zT.aload_n 0 dX13_wrong_65 rfl rfl ?_
          refine zT.iload_n 1 dX13_wrong_66 rfl rfl ?_
          refine zT.iconst dX13_wrong_67 ?_
          refine zT.callV (M' := mX13_go5) (b := b) [zI k, zI 3] [zI (m (b + 2) (59 + 5 * i + 3))] dX13_wrong_68 kX13_280 rfl rfl (ci := 10) (r := (RX13, TX13, 62)) rfl (zMod.k hb) (C_X13_go5 hb (by first | assumption | exact zq_i _ | exact zand_i _ _ | exact zor_i _ _ | exact zxor_i _ _ | exact zN _ | omega) (by first | assumption | exact zq_i _ | exact zand_i _ _ | exact zor_i _ _ | exact zxor_i _ _ | exact zN _ | omega)) (by decide) (k' := 0) (n' := 0) (by omega) (by omega) (by simp only [List.map, zcI, zcJ, zcR, List.sum_cons, List.sum_nil]; decide) (zdk (v := some (zI (m (b + 2) (59 + 5 * k + 3)))) ?_) (fun _ _ _ _ h => h.elim)
          show zT G _ _ _ _ [zI (m (b + 2) (59 + 5 * k + 3)), zI (m (b + 2) (59 + 5 * i + 3))] _ _ _ _ _ _
          refine zT.ic_ne (tgt := 76) dX13_wrong_71 (by decide) (by first | assumption | exact zq_i _ | exact zand_i _ _ | exact zor_i _ _ | exact zxor_i _ _ | exact zN _ | omega) (by first | assumption | exact zq_i _ | exact zand_i _ _ | exact zor_i _ _ | exact zxor_i _ _ | exact zN _ | omega) (fun c71 => ?_) (fun c71 => ?_)
          · refine zT.aload_n 0 dX13_wrong_76 rfl rfl ?_
            refine zT.iload 7 dX13_wrong_77 rfl ?_
            refine zT.iconst dX13_wrong_79 ?_
            refine zT.callV (M' := mX13_go5) (b := b) [zI i, zI 0] [] dX13_wrong_80 kX13_280 rfl rfl (ci := 10) (r := (RX13, TX13, 62)) rfl (zMod.k hb) (C_X13_go5 hb (by first | assumption | exact zq_i _ | exact zand_i _ _ | exact zor_i _ _ | exact zxor_i _ _ | exact zN _ | omega) (by first | assumption | exact zq_i _ | exact zand_i _ _ | exact zor_i _ _ | exact zxor_i _ _ | exact zN _ | omega)) (by decide) (k' := 0) (n' := 0) (by omega) (by omega) (by decide) (zdk (v := some (zI (m (b + 2) (59 + 5 * i + 0)))) ?_) (fun _ _ _ _ h => h.elim)
            show zT G _ _ _ _ [zI (m (b + 2) (59 + 5 * i + 0))] _ _ _ _ _ _
            refine zT.iload_n 3 dX13_wrong_83 rfl rfl ?_
            refine zT.ic_eq (tgt := 90) dX13_wrong_84 (by decide) (by first | assumption | exact zq_i _ | exact zand_i _ _ | exact zor_i _ _ | exact zxor_i _ _ | exact zN _ | omega) (by first | assumption | exact zq_i _ | exact zand_i _ _ | exact zor_i _ _ | exact zxor_i _ _ | exact zN _ | omega) (fun c84 => ?_) (fun c84 => ?_)
            · refine zT.iload 8 dX13_wrong_90 rfl ?_
              refine zT.if_eqB (tgt := 98) dX13_wrong_92 (by decide) (fun c92 => ?_) (fun c92 => ?_)
              · refine zT.aload_n 0 dX13_wrong_98 rfl rfl ?_
                refine zT.iload 7 dX13_wrong_99 rfl ?_
                refine zT.iconst dX13_wrong_101 ?_
                refine zT.callV (M' := mX13_go5) (b := b) [zI i, zI 1] [] dX13_wrong_102 kX13_280 rfl rfl (ci := 10) (r := (RX13, TX13, 62)) rfl (zMod.k hb) (C_X13_go5 hb (by first | assumption | exact zq_i _ | exact zand_i _ _ | exact zor_i _ _ | exact zxor_i _ _ | exact zN _ | omega) (by first | assumption | exact zq_i _ | exact zand_i _ _ | exact zor_i _ _ | exact zxor_i _ _ | exact zN _ | omega)) (by decide) (k' := 0) (n' := 0) (by omega) (by omega) (by decide) (zdk (v := some (zI (m (b + 2) (59 + 5 * i + 1)))) ?_) (fun _ _ _ _ h => h.elim)
                show zT G _ _ _ _ [zI (m (b + 2) (59 + 5 * i + 1))] _ _ _ _ _ _
                refine zT.aload_n 0 dX13_wrong_105 rfl rfl ?_
                refine zT.iload_n 1 dX13_wrong_106 rfl rfl ?_
                refine zT.iconst dX13_wrong_107 ?_
                refine zT.callV (M' := mX13_go5) (b := b) [zI k, zI 1] [zI (m (b + 2) (59 + 5 * i + 1))] dX13_wrong_108 kX13_280 rfl rfl (ci := 10) (r := (RX13, TX13, 62)) rfl (zMod.k hb) (C_X13_go5 hb (by first | assumption | exact zq_i _ | exact zand_i _ _ | exact zor_i _ _ | exact zxor_i _ _ | exact zN _ | omega) (by first | assumption | exact zq_i _ | exact zand_i _ _ | exact zor_i _ _ | exact zxor_i _ _ | exact zN _ | omega)) (by decide) (k' := 0) (n' := 0) (by omega) (by omega) (by simp only [List.map, zcI, zcJ, zcR, List.sum_cons, List.sum_nil]; decide) (zdk (v := some (zI (m (b + 2) (59 + 5 * k + 1)))) ?_) (fun _ _ _ _ h => h.elim)
                show zT G _ _ _ _ [zI (m (b + 2) (59 + 5 * k + 1)), zI (m (b + 2) (59 + 5 * i + 1))] _ _ _ _ _ _
                refine zT.ic_ne (tgt := 146) dX13_wrong_111 (by decide) (by first | assumption | exact zq_i _ | exact zand_i _ _ | exact zor_i _ _ | exact zxor_i _ _ | exact zN _ | omega) (by first | assumption | exact zq_i _ | exact zand_i _ _ | exact zor_i _ _ | exact zxor_i _ _ | exact zN _ | omega) (fun c111 => ?_) (fun c111 => ?_)
                · refine zT.iload 8 dX13_wrong_146 rfl ?_
                  refine zT.if_neB (tgt := 201) dX13_wrong_148 (by decide) (fun c148 => ?_) (fun c148 => ?_)
                  · refine zT.iinc 7 dX13_wrong_201 rfl (by decide) (zpre1 rfl (zcI _)) ?_
                    show zT G _ _ _ [zR b, zI k, zI t, zI (m (b + 2) (59 + 5 * k + 0)), zI (m (b + 2) (59 + 5 * k + 4)), zI u, zI l, zI (i + 1), zI (zq (t < (m (b + 2) (59 + 5 * i + 2)) + (m (b + 2) (59 + 5 * i + 4)) ∧ (m (b + 2) (59 + 5 * i + 2)) < t + (m (b + 2) (59 + 5 * k + 4))))] _ _ _ _ _ _ _
                    refine zT.goto (tgt := 26) dX13_wrong_204 (by decide) ?_
                    refine zT.loc (V' := [zR b, zI k, zI t, zI (m (b + 2) (59 + 5 * k + 0)), zI (m (b + 2) (59 + 5 * k + 4)), zI u, zI l, zI (i + 1), zU]) ?_ ⟨Or.inr rfl, Or.inr rfl, Or.inr rfl, Or.inr rfl, Or.inr rfl, Or.inr rfl, Or.inr rfl, Or.inr rfl, Or.inl rfl, trivial⟩
                    exact ih26 _ _ _ (by first | assumption | exact zq_i _ | exact zand_i _ _ | exact zor_i _ _ | exact zxor_i _ _ | exact zN _ | omega) (by first | assumption | exact zq_i _ | exact zand_i _ _ | exact zor_i _ _ | exact zxor_i _ _ | exact zN _ | omega) (by exact acnt_z i0 hw1 (by rw [aW1_i]; omega)) (by first | (rw [ahad_f i0 (by omega)]; omega) | (rw [ahad_t i0 (by omega) (by omega)]; omega)) (by first | exact aWI_a i0 hl (by omega) | exact aWI_b i0 (by omega) (by omega) (by omega) | exact aWI_c i0 hl (by omega) (by omega) (by omega) (by omega) (by omega) (by omega) | exact aWI_d i0 hl (by omega) (by omega) (by omega) (by omega)) (by omega)
                  · refine zT.iload_n 2 dX13_wrong_151 rfl rfl ?_
                    refine zT.aload_n 0 dX13_wrong_152 rfl rfl ?_
                    refine zT.iload 7 dX13_wrong_153 rfl ?_
                    refine zT.callV (M' := mX13_from) (b := b) [zI i] [zI t] dX13_wrong_155 kX13_297 rfl rfl (ci := 10) (r := (RX13, TX13, 62)) rfl (zMod.k hb) (C_X13_from hb (by first | assumption | exact zq_i _ | exact zand_i _ _ | exact zor_i _ _ | exact zxor_i _ _ | exact zN _ | omega)) (by decide) (k' := 0) (n' := 0) (by omega) (by omega) (by simp only [List.map, zcI, zcJ, zcR, List.sum_cons, List.sum_nil]; decide) (zdk (v := some (zI (m (b + 2) (59 + 5 * i + 2)))) ?_) (fun _ _ _ _ h => h.elim)
                    show zT G _ _ _ _ [zI (m (b + 2) (59 + 5 * i + 2)), zI t] _ _ _ _ _ _
                    refine zT.ic_le (tgt := 172) dX13_wrong_158 (by decide) (by first | assumption | exact zq_i _ | exact zand_i _ _ | exact zor_i _ _ | exact zxor_i _ _ | exact zN _ | omega) (by first | assumption | exact zq_i _ | exact zand_i _ _ | exact zor_i _ _ | exact zxor_i _ _ | exact zN _ | omega) (fun c158 => ?_) (fun c158 => ?_)
                    · refine zT.aload_n 0 dX13_wrong_172 rfl rfl ?_
                      refine zT.iload 7 dX13_wrong_173 rfl ?_
                      refine zT.callV (M' := mX13_from) (b := b) [zI i] [] dX13_wrong_175 kX13_297 rfl rfl (ci := 10) (r := (RX13, TX13, 62)) rfl (zMod.k hb) (C_X13_from hb (by first | assumption | exact zq_i _ | exact zand_i _ _ | exact zor_i _ _ | exact zxor_i _ _ | exact zN _ | omega)) (by decide) (k' := 0) (n' := 0) (by omega) (by omega) (by decide) (zdk (v := some (zI (m (b + 2) (59 + 5 * i + 2)))) ?_) (fun _ _ _ _ h => h.elim)
                      show zT G _ _ _ _ [zI (m (b + 2) (59 + 5 * i + 2))] _ _ _ _ _ _
                      refine zT.iload_n 2 dX13_wrong_178 rfl rfl ?_
                      refine zT.isub dX13_wrong_179 ?_
                      refine zT.iload 4 dX13_wrong_180 rfl ?_
                      refine zT.isub dX13_wrong_182 ?_
                      refine zT.aload_n 0 dX13_wrong_183 rfl rfl ?_
                      refine zT.getF dX13_wrong_184 fX13_13 rfl (zMod.k hb) (j := 14) (by decide) rfl (zMod.f1014 hb) ?_
                      refine zT.iconst dX13_wrong_187 ?_
                      refine zT.iald dX13_wrong_188 (zMod.a1014 hb) (by first | assumption | exact zq_i _ | exact zand_i _ _ | exact zor_i _ _ | exact zxor_i _ _ | exact zN _ | omega) (by rw [(zMod.n1014 hb)]; first | assumption | exact zq_i _ | exact zand_i _ _ | exact zor_i _ _ | exact zxor_i _ _ | exact zN _ | omega) (fun z188 => ?_)
                      refine zT.ic_ge (tgt := 201) dX13_wrong_189 (by decide) (by first | assumption | exact zq_i _ | exact zand_i _ _ | exact zor_i _ _ | exact zxor_i _ _ | exact zN _ | omega) (by first | assumption | exact zq_i _ | exact zand_i _ _ | exact zor_i _ _ | exact zxor_i _ _ | exact zN _ | omega) (fun c189 => ?_) (fun c189 => ?_)
                      · refine zT.iinc 7 dX13_wrong_201 rfl (by decide) (zpre1 rfl (zcI _)) ?_
                        show zT G _ _ _ [zR b, zI k, zI t, zI (m (b + 2) (59 + 5 * k + 0)), zI (m (b + 2) (59 + 5 * k + 4)), zI u, zI l, zI (i + 1), zI (zq (t < (m (b + 2) (59 + 5 * i + 2)) + (m (b + 2) (59 + 5 * i + 4)) ∧ (m (b + 2) (59 + 5 * i + 2)) < t + (m (b + 2) (59 + 5 * k + 4))))] _ _ _ _ _ _ _
                        refine zT.goto (tgt := 26) dX13_wrong_204 (by decide) ?_
                        refine zT.loc (V' := [zR b, zI k, zI t, zI (m (b + 2) (59 + 5 * k + 0)), zI (m (b + 2) (59 + 5 * k + 4)), zI u, zI l, zI (i + 1), zU]) ?_ ⟨Or.inr rfl, Or.inr rfl, Or.inr rfl, Or.inr rfl, Or.inr rfl, Or.inr rfl, Or.inr rfl, Or.inr rfl, Or.inl rfl, trivial⟩
                        exact ih26 _ _ _ (by first | assumption | exact zq_i _ | exact zand_i _ _ | exact zor_i _ _ | exact zxor_i _ _ | exact zN _ | omega) (by first | assumption | exact zq_i _ | exact zand_i _ _ | exact zor_i _ _ | exact zxor_i _ _ | exact zN _ | omega) (by exact acnt_z i0 hw1 (by rw [aW1_i]; omega)) (by first | (rw [ahad_f i0 (by omega)]; omega) | (rw [ahad_t i0 (by omega) (by omega)]; omega)) (by first | exact aWI_a i0 hl (by omega) | exact aWI_b i0 (by omega) (by omega) (by omega) | exact aWI_c i0 hl (by omega) (by omega) (by omega) (by omega) (by omega) (by omega) | exact aWI_d i0 hl (by omega) (by omega) (by omega) (by omega)) (by omega)
                      · refine zT.iload 6 dX13_wrong_192 rfl ?_
                        refine zT.iconst dX13_wrong_194 ?_
                        refine zT.ic_le (tgt := 201) dX13_wrong_195 (by decide) (by first | assumption | exact zq_i _ | exact zand_i _ _ | exact zor_i _ _ | exact zxor_i _ _ | exact zN _ | omega) (by first | assumption | exact zq_i _ | exact zand_i _ _ | exact zor_i _ _ | exact zxor_i _ _ | exact zN _ | omega) (fun c195 => ?_) (fun c195 => ?_)
                        · refine zT.iinc 7 dX13_wrong_201 rfl (by decide) (zpre1 rfl (zcI _)) ?_
                          show zT G _ _ _ [zR b, zI k, zI t, zI (m (b + 2) (59 + 5 * k + 0)), zI (m (b + 2) (59 + 5 * k + 4)), zI u, zI l, zI (i + 1), zI (zq (t < (m (b + 2) (59 + 5 * i + 2)) + (m (b + 2) (59 + 5 * i + 4)) ∧ (m (b + 2) (59 + 5 * i + 2)) < t + (m (b + 2) (59 + 5 * k + 4))))] _ _ _ _ _ _ _
                          refine zT.goto (tgt := 26) dX13_wrong_204 (by decide) ?_
                          refine zT.loc (V' := [zR b, zI k, zI t, zI (m (b + 2) (59 + 5 * k + 0)), zI (m (b + 2) (59 + 5 * k + 4)), zI u, zI l, zI (i + 1), zU]) ?_ ⟨Or.inr rfl, Or.inr rfl, Or.inr rfl, Or.inr rfl, Or.inr rfl, Or.inr rfl, Or.inr rfl, Or.inr rfl, Or.inl rfl, trivial⟩
                          exact ih26 _ _ _ (by first | assumption | exact zq_i _ | exact zand_i _ _ | exact zor_i _ _ | exact zxor_i _ _ | exact zN _ | omega) (by first | assumption | exact zq_i _ | exact zand_i _ _ | exact zor_i _ _ | exact zxor_i _ _ | exact zN _ | omega) (by exact acnt_z i0 hw1 (by rw [aW1_i]; omega)) (by first | (rw [ahad_f i0 (by omega)]; omega) | (rw [ahad_t i0 (by omega) (by omega)]; omega)) (by first | exact aWI_a i0 hl (by omega) | exact aWI_b i0 (by omega) (by omega) (by omega) | exact aWI_c i0 hl (by omega) (by omega) (by omega) (by omega) (by omega) (by omega) | exact aWI_d i0 hl (by omega) (by omega) (by omega) (by omega)) (by omega)
                        · refine zT.iconst dX13_wrong_198 ?_
                          refine zT.istore 6 dX13_wrong_199 (by decide) (zpre1 rfl (zcI _)) ?_
                          show zT G _ _ _ [zR b, zI k, zI t, zI (m (b + 2) (59 + 5 * k + 0)), zI (m (b + 2) (59 + 5 * k + 4)), zI u, zI 5, zI i, zI (zq (t < (m (b + 2) (59 + 5 * i + 2)) + (m (b + 2) (59 + 5 * i + 4)) ∧ (m (b + 2) (59 + 5 * i + 2)) < t + (m (b + 2) (59 + 5 * k + 4))))] _ _ _ _ _ _ _
                          refine zT.iinc 7 dX13_wrong_201 rfl (by decide) (zpre1 rfl (zcI _)) ?_
                          show zT G _ _ _ [zR b, zI k, zI t, zI (m (b + 2) (59 + 5 * k + 0)), zI (m (b + 2) (59 + 5 * k + 4)), zI u, zI 5, zI (i + 1), zI (zq (t < (m (b + 2) (59 + 5 * i + 2)) + (m (b + 2) (59 + 5 * i + 4)) ∧ (m (b + 2) (59 + 5 * i + 2)) < t + (m (b + 2) (59 + 5 * k + 4))))] _ _ _ _ _ _ _
                          refine zT.goto (tgt := 26) dX13_wrong_204 (by decide) ?_
                          refine zT.loc (V' := [zR b, zI k, zI t, zI (m (b + 2) (59 + 5 * k + 0)), zI (m (b + 2) (59 + 5 * k + 4)), zI u, zI 5, zI (i + 1), zU]) ?_ ⟨Or.inr rfl, Or.inr rfl, Or.inr rfl, Or.inr rfl, Or.inr rfl, Or.inr rfl, Or.inr rfl, Or.inr rfl, Or.inl rfl, trivial⟩
                          exact ih26 _ _ _ (by first | assumption | exact zq_i _ | exact zand_i _ _ | exact zor_i _ _ | exact zxor_i _ _ | exact zN _ | omega) (by first | assumption | exact zq_i _ | exact zand_i _ _ | exact zor_i _ _ | exact zxor_i _ _ | exact zN _ | omega) (by exact acnt_z i0 hw1 (by rw [aW1_i]; omega)) (by first | (rw [ahad_f i0 (by omega)]; omega) | (rw [ahad_t i0 (by omega) (by omega)]; omega)) (by first | exact aWI_a i0 hl (by omega) | exact aWI_b i0 (by omega) (by omega) (by omega) | exact aWI_c i0 hl (by omega) (by omega) (by omega) (by omega) (by omega) (by omega) | exact aWI_d i0 hl (by omega) (by omega) (by omega) (by omega)) (by omega)
                    · refine zT.iload_n 2 dX13_wrong_161 rfl rfl ?_
                      refine zT.aload_n 0 dX13_wrong_162 rfl rfl ?_
                      refine zT.iload 7 dX13_wrong_163 rfl ?_
                      refine zT.callV (M' := mX13_behind) (b := b) [zI i] [zI t] dX13_wrong_165 kX13_306 rfl rfl (ci := 10) (r := (RX13, TX13, 62)) rfl (zMod.k hb) (C_X13_behind hb (by first | assumption | exact zq_i _ | exact zand_i _ _ | exact zor_i _ _ | exact zxor_i _ _ | exact zN _ | omega)) (by decide) (k' := 0) (n' := 0) (by omega) (by omega) (by simp only [List.map, zcI, zcJ, zcR, List.sum_cons, List.sum_nil]; decide) (zdk (v := some (zI (m (b + 2) (59 + 5 * i + 2) + m (b + 2) (59 + 5 * i + 4)))) ?_) (fun _ _ _ _ h => h.elim)
                      show zT G _ _ _ _ [zI (m (b + 2) (59 + 5 * i + 2) + m (b + 2) (59 + 5 * i + 4)), zI t] _ _ _ _ _ _
                      refine zT.isub dX13_wrong_168 ?_
                      refine zT.goto (tgt := 183) dX13_wrong_169 (by decide) ?_
                      refine zT.aload_n 0 dX13_wrong_183 rfl rfl ?_
                      refine zT.getF dX13_wrong_184 fX13_13 rfl (zMod.k hb) (j := 14) (by decide) rfl (zMod.f1014 hb) ?_
                      refine zT.iconst dX13_wrong_187 ?_
                      refine zT.iald dX13_wrong_188 (zMod.a1014 hb) (by first | assumption | exact zq_i _ | exact zand_i _ _ | exact zor_i _ _ | exact zxor_i _ _ | exact zN _ | omega) (by rw [(zMod.n1014 hb)]; first | assumption | exact zq_i _ | exact zand_i _ _ | exact zor_i _ _ | exact zxor_i _ _ | exact zN _ | omega) (fun z188 => ?_)
                      refine zT.ic_ge (tgt := 201) dX13_wrong_189 (by decide) (by first | assumption | exact zq_i _ | exact zand_i _ _ | exact zor_i _ _ | exact zxor_i _ _ | exact zN _ | omega) (by first | assumption | exact zq_i _ | exact zand_i _ _ | exact zor_i _ _ | exact zxor_i _ _ | exact zN _ | omega) (fun c189 => ?_) (fun c189 => ?_)
                      · refine zT.iinc 7 dX13_wrong_201 rfl (by decide) (zpre1 rfl (zcI _)) ?_
                        show zT G _ _ _ [zR b, zI k, zI t, zI (m (b + 2) (59 + 5 * k + 0)), zI (m (b + 2) (59 + 5 * k + 4)), zI u, zI l, zI (i + 1), zI (zq (t < (m (b + 2) (59 + 5 * i + 2)) + (m (b + 2) (59 + 5 * i + 4)) ∧ (m (b + 2) (59 + 5 * i + 2)) < t + (m (b + 2) (59 + 5 * k + 4))))] _ _ _ _ _ _ _
                        refine zT.goto (tgt := 26) dX13_wrong_204 (by decide) ?_
                        refine zT.loc (V' := [zR b, zI k, zI t, zI (m (b + 2) (59 + 5 * k + 0)), zI (m (b + 2) (59 + 5 * k + 4)), zI u, zI l, zI (i + 1), zU]) ?_ ⟨Or.inr rfl, Or.inr rfl, Or.inr rfl, Or.inr rfl, Or.inr rfl, Or.inr rfl, Or.inr rfl, Or.inr rfl, Or.inl rfl, trivial⟩
                        exact ih26 _ _ _ (by first | assumption | exact zq_i _ | exact zand_i _ _ | exact zor_i _ _ | exact zxor_i _ _ | exact zN _ | omega) (by first | assumption | exact zq_i _ | exact zand_i _ _ | exact zor_i _ _ | exact zxor_i _ _ | exact zN _ | omega) (by exact acnt_z i0 hw1 (by rw [aW1_i]; omega)) (by first | (rw [ahad_f i0 (by omega)]; omega) | (rw [ahad_t i0 (by omega) (by omega)]; omega)) (by first | exact aWI_a i0 hl (by omega) | exact aWI_b i0 (by omega) (by omega) (by omega) | exact aWI_c i0 hl (by omega) (by omega) (by omega) (by omega) (by omega) (by omega) | exact aWI_d i0 hl (by omega) (by omega) (by omega) (by omega)) (by omega)
                      · refine zT.iload 6 dX13_wrong_192 rfl ?_
                        refine zT.iconst dX13_wrong_194 ?_
                        refine zT.ic_le (tgt := 201) dX13_wrong_195 (by decide) (by first | assumption | exact zq_i _ | exact zand_i _ _ | exact zor_i _ _ | exact zxor_i _ _ | exact zN _ | omega) (by first | assumption | exact zq_i _ | exact zand_i _ _ | exact zor_i _ _ | exact zxor_i _ _ | exact zN _ | omega) (fun c195 => ?_) (fun c195 => ?_)
                        · refine zT.iinc 7 dX13_wrong_201 rfl (by decide) (zpre1 rfl (zcI _)) ?_
                          show zT G _ _ _ [zR b, zI k, zI t, zI (m (b + 2) (59 + 5 * k + 0)), zI (m (b + 2) (59 + 5 * k + 4)), zI u, zI l, zI (i + 1), zI (zq (t < (m (b + 2) (59 + 5 * i + 2)) + (m (b + 2) (59 + 5 * i + 4)) ∧ (m (b + 2) (59 + 5 * i + 2)) < t + (m (b + 2) (59 + 5 * k + 4))))] _ _ _ _ _ _ _
                          refine zT.goto (tgt := 26) dX13_wrong_204 (by decide) ?_
                          refine zT.loc (V' := [zR b, zI k, zI t, zI (m (b + 2) (59 + 5 * k + 0)), zI (m (b + 2) (59 + 5 * k + 4)), zI u, zI l, zI (i + 1), zU]) ?_ ⟨Or.inr rfl, Or.inr rfl, Or.inr rfl, Or.inr rfl, Or.inr rfl, Or.inr rfl, Or.inr rfl, Or.inr rfl, Or.inl rfl, trivial⟩
                          exact ih26 _ _ _ (by first | assumption | exact zq_i _ | exact zand_i _ _ | exact zor_i _ _ | exact zxor_i _ _ | exact zN _ | omega) (by first | assumption | exact zq_i _ | exact zand_i _ _ | exact zor_i _ _ | exact zxor_i _ _ | exact zN _ | omega) (by exact acnt_z i0 hw1 (by rw [aW1_i]; omega)) (by first | (rw [ahad_f i0 (by omega)]; omega) | (rw [ahad_t i0 (by omega) (by omega)]; omega)) (by first | exact aWI_a i0 hl (by omega) | exact aWI_b i0 (by omega) (by omega) (by omega) | exact aWI_c i0 hl (by omega) (by omega) (by omega) (by omega) (by omega) (by omega) | exact aWI_d i0 hl (by omega) (by omega) (by omega) (by omega)) (by omega)
                        · refine zT.iconst dX13_wrong_198 ?_
                          refine zT.istore 6 dX13_wrong_199 (by decide) (zpre1 rfl (zcI _)) ?_
                          show zT G _ _ _ [zR b, zI k, zI t, zI (m (b + 2) (59 + 5 * k + 0)), zI (m (b + 2) (59 + 5 * k + 4)), zI u, zI 5, zI i, zI (zq (t < (m (b + 2) (59 + 5 * i + 2)) + (m (b + 2) (59 + 5 * i + 4)) ∧ (m (b + 2) (59 + 5 * i + 2)) < t + (m (b + 2) (59 + 5 * k + 4))))] _ _ _ _ _ _ _
                          refine zT.iinc 7 dX13_wrong_201 rfl (by decide) (zpre1 rfl (zcI _)) ?_
                          show zT G _ _ _ [zR b, zI k, zI t, zI (m (b + 2) (59 + 5 * k + 0)), zI (m (b + 2) (59 + 5 * k + 4)), zI u, zI 5, zI (i + 1), zI (zq (t < (m (b + 2) (59 + 5 * i + 2)) + (m (b + 2) (59 + 5 * i + 4)) ∧ (m (b + 2) (59 + 5 * i + 2)) < t + (m (b + 2) (59 + 5 * k + 4))))] _ _ _ _ _ _ _
                          refine zT.goto (tgt := 26) dX13_wrong_204 (by decide) ?_
                          refine zT.loc (V' := [zR b, zI k, zI t, zI (m (b + 2) (59 + 5 * k + 0)), zI (m (b + 2) (59 + 5 * k + 4)), zI u, zI 5, zI (i + 1), zU]) ?_ ⟨Or.inr rfl, Or.inr rfl, Or.inr rfl, Or.inr rfl, Or.inr rfl, Or.inr rfl, Or.inr rfl, Or.inr rfl, Or.inl rfl, trivial⟩
                          exact ih26 _ _ _ (by first | assumption | exact zq_i _ | exact zand_i _ _ | exact zor_i _ _ | exact zxor_i _ _ | exact zN _ | omega) (by first | assumption | exact zq_i _ | exact zand_i _ _ | exact zor_i _ _ | exact zxor_i _ _ | exact zN _ | omega) (by exact acnt_z i0 hw1 (by rw [aW1_i]; omega)) (by first | (rw [ahad_f i0 (by omega)]; omega) | (rw [ahad_t i0 (by omega) (by omega)]; omega)) (by first | exact aWI_a i0 hl (by omega) | exact aWI_b i0 (by omega) (by omega) (by omega) | exact aWI_c i0 hl (by omega) (by omega) (by omega) (by omega) (by omega) (by omega) | exact aWI_d i0 hl (by omega) (by omega) (by omega) (by omega)) (by omega)
                · refine zT.iload 5 dX13_wrong_114 rfl ?_
                  refine zT.aload_n 0 dX13_wrong_116 rfl rfl ?_
                  refine zT.iload 7 dX13_wrong_117 rfl ?_
                  refine zT.iconst dX13_wrong_119 ?_
                  refine zT.callV (M' := mX13_go5) (b := b) [zI i, zI 4] [zI u] dX13_wrong_120 kX13_280 rfl rfl (ci := 10) (r := (RX13, TX13, 62)) rfl (zMod.k hb) (C_X13_go5 hb (by first | assumption | exact zq_i _ | exact zand_i _ _ | exact zor_i _ _ | exact zxor_i _ _ | exact zN _ | omega) (by first | assumption | exact zq_i _ | exact zand_i _ _ | exact zor_i _ _ | exact zxor_i _ _ | exact zN _ | omega)) (by decide) (k' := 0) (n' := 0) (by omega) (by omega) (by simp only [List.map, zcI, zcJ, zcR, List.sum_cons, List.sum_nil]; decide) (zdk (v := some (zI (m (b + 2) (59 + 5 * i + 4)))) ?_) (fun _ _ _ _ h => h.elim)
                  show zT G _ _ _ _ [zI (m (b + 2) (59 + 5 * i + 4)), zI u] _ _ _ _ _ _
                  refine zT.iadd dX13_wrong_123 ?_
                  refine zT.istore 5 dX13_wrong_124 (by decide) (zpre1 rfl (zcI _)) ?_
                  show zT G _ _ _ [zR b, zI k, zI t, zI (m (b + 2) (59 + 5 * k + 0)), zI (m (b + 2) (59 + 5 * k + 4)), zI (u + (m (b + 2) (59 + 5 * i + 4))), zI l, zI i, zI (zq (t < (m (b + 2) (59 + 5 * i + 2)) + (m (b + 2) (59 + 5 * i + 4)) ∧ (m (b + 2) (59 + 5 * i + 2)) < t + (m (b + 2) (59 + 5 * k + 4))))] _ _ _ _ _ _ _
                  refine zT.aload_n 0 dX13_wrong_126 rfl rfl ?_
                  refine zT.iload_n 3 dX13_wrong_127 rfl rfl ?_
                  refine zT.callV (M' := mX13_isOnce) (b := b) [zI (m (b + 2) (59 + 5 * k + 0))] [] dX13_wrong_128 kX13_303 rfl rfl (ci := 10) (r := (RX13, TX13, 62)) rfl (zMod.k hb) (C_X13_isOnce hb (by first | assumption | exact zq_i _ | exact zand_i _ _ | exact zor_i _ _ | exact zxor_i _ _ | exact zN _ | omega)) (by decide) (k' := 0) (n' := 0) (by omega) (by omega) (by decide) (zdk (v := some (zI (zq (0 < m (b + 2) (8 + 3 * (m (b + 2) (59 + 5 * k + 0)) + 2))))) ?_) (fun _ _ _ _ h => h.elim)
                  show zT G _ _ _ _ [zI (zq (0 < m (b + 2) (8 + 3 * (m (b + 2) (59 + 5 * k + 0)) + 2)))] _ _ _ _ _ _
                  refine zT.if_eqB (tgt := 201) dX13_wrong_131 (by decide) (fun c131 => ?_) (fun c131 => ?_)
                  · refine zT.iinc 7 dX13_wrong_201 rfl (by decide) (zpre1 rfl (zcI _)) ?_
                    show zT G _ _ _ [zR b, zI k, zI t, zI (m (b + 2) (59 + 5 * k + 0)), zI (m (b + 2) (59 + 5 * k + 4)), zI (u + (m (b + 2) (59 + 5 * i + 4))), zI l, zI (i + 1), zI (zq (t < (m (b + 2) (59 + 5 * i + 2)) + (m (b + 2) (59 + 5 * i + 4)) ∧ (m (b + 2) (59 + 5 * i + 2)) < t + (m (b + 2) (59 + 5 * k + 4))))] _ _ _ _ _ _ _
                    refine zT.goto (tgt := 26) dX13_wrong_204 (by decide) ?_
                    refine zT.loc (V' := [zR b, zI k, zI t, zI (m (b + 2) (59 + 5 * k + 0)), zI (m (b + 2) (59 + 5 * k + 4)), zI (u + (m (b + 2) (59 + 5 * i + 4))), zI l, zI (i + 1), zU]) ?_ ⟨Or.inr rfl, Or.inr rfl, Or.inr rfl, Or.inr rfl, Or.inr rfl, Or.inr rfl, Or.inr rfl, Or.inr rfl, Or.inl rfl, trivial⟩
                    exact ih26 _ _ _ (by first | assumption | exact zq_i _ | exact zand_i _ _ | exact zor_i _ _ | exact zxor_i _ _ | exact zN _ | omega) (by first | assumption | exact zq_i _ | exact zand_i _ _ | exact zor_i _ _ | exact zxor_i _ _ | exact zN _ | omega) (by exact acnt_z i0 hw1 (by rw [aW1_i]; omega)) (by first | (rw [ahad_f i0 (by omega)]; omega) | (rw [ahad_t i0 (by omega) (by omega)]; omega)) (by first | exact aWI_a i0 hl (by omega) | exact aWI_b i0 (by omega) (by omega) (by omega) | exact aWI_c i0 hl (by omega) (by omega) (by omega) (by omega) (by omega) (by omega) | exact aWI_d i0 hl (by omega) (by omega) (by omega) (by omega)) (by omega)
                  · refine zT.iload 6 dX13_wrong_134 rfl ?_
                    refine zT.iconst dX13_wrong_136 ?_
                    refine zT.ic_le (tgt := 201) dX13_wrong_137 (by decide) (by first | assumption | exact zq_i _ | exact zand_i _ _ | exact zor_i _ _ | exact zxor_i _ _ | exact zN _ | omega) (by first | assumption | exact zq_i _ | exact zand_i _ _ | exact zor_i _ _ | exact zxor_i _ _ | exact zN _ | omega) (fun c137 => ?_) (fun c137 => ?_)
                    · refine zT.iinc 7 dX13_wrong_201 rfl (by decide) (zpre1 rfl (zcI _)) ?_
                      show zT G _ _ _ [zR b, zI k, zI t, zI (m (b + 2) (59 + 5 * k + 0)), zI (m (b + 2) (59 + 5 * k + 4)), zI (u + (m (b + 2) (59 + 5 * i + 4))), zI l, zI (i + 1), zI (zq (t < (m (b + 2) (59 + 5 * i + 2)) + (m (b + 2) (59 + 5 * i + 4)) ∧ (m (b + 2) (59 + 5 * i + 2)) < t + (m (b + 2) (59 + 5 * k + 4))))] _ _ _ _ _ _ _
                      refine zT.goto (tgt := 26) dX13_wrong_204 (by decide) ?_
                      refine zT.loc (V' := [zR b, zI k, zI t, zI (m (b + 2) (59 + 5 * k + 0)), zI (m (b + 2) (59 + 5 * k + 4)), zI (u + (m (b + 2) (59 + 5 * i + 4))), zI l, zI (i + 1), zU]) ?_ ⟨Or.inr rfl, Or.inr rfl, Or.inr rfl, Or.inr rfl, Or.inr rfl, Or.inr rfl, Or.inr rfl, Or.inr rfl, Or.inl rfl, trivial⟩
                      exact ih26 _ _ _ (by first | assumption | exact zq_i _ | exact zand_i _ _ | exact zor_i _ _ | exact zxor_i _ _ | exact zN _ | omega) (by first | assumption | exact zq_i _ | exact zand_i _ _ | exact zor_i _ _ | exact zxor_i _ _ | exact zN _ | omega) (by exact acnt_z i0 hw1 (by rw [aW1_i]; omega)) (by first | (rw [ahad_f i0 (by omega)]; omega) | (rw [ahad_t i0 (by omega) (by omega)]; omega)) (by first | exact aWI_a i0 hl (by omega) | exact aWI_b i0 (by omega) (by omega) (by omega) | exact aWI_c i0 hl (by omega) (by omega) (by omega) (by omega) (by omega) (by omega) | exact aWI_d i0 hl (by omega) (by omega) (by omega) (by omega)) (by omega)
                    · refine zT.iconst dX13_wrong_140 ?_
                      refine zT.istore 6 dX13_wrong_141 (by decide) (zpre1 rfl (zcI _)) ?_
                      show zT G _ _ _ [zR b, zI k, zI t, zI (m (b + 2) (59 + 5 * k + 0)), zI (m (b + 2) (59 + 5 * k + 4)), zI (u + (m (b + 2) (59 + 5 * i + 4))), zI 4, zI i, zI (zq (t < (m (b + 2) (59 + 5 * i + 2)) + (m (b + 2) (59 + 5 * i + 4)) ∧ (m (b + 2) (59 + 5 * i + 2)) < t + (m (b + 2) (59 + 5 * k + 4))))] _ _ _ _ _ _ _
                      refine zT.goto (tgt := 201) dX13_wrong_143 (by decide) ?_
                      refine zT.iinc 7 dX13_wrong_201 rfl (by decide) (zpre1 rfl (zcI _)) ?_
                      show zT G _ _ _ [zR b, zI k, zI t, zI (m (b + 2) (59 + 5 * k + 0)), zI (m (b + 2) (59 + 5 * k + 4)), zI (u + (m (b + 2) (59 + 5 * i + 4))), zI 4, zI (i + 1), zI (zq (t < (m (b + 2) (59 + 5 * i + 2)) + (m (b + 2) (59 + 5 * i + 4)) ∧ (m (b + 2) (59 + 5 * i + 2)) < t + (m (b + 2) (59 + 5 * k + 4))))] _ _ _ _ _ _ _
                      refine zT.goto (tgt := 26) dX13_wrong_204 (by decide) ?_
                      refine zT.loc (V' := [zR b, zI k, zI t, zI (m (b + 2) (59 + 5 * k + 0)), zI (m (b + 2) (59 + 5 * k + 4)), zI (u + (m (b + 2) (59 + 5 * i + 4))), zI 4, zI (i + 1), zU]) ?_ ⟨Or.inr rfl, Or.inr rfl, Or.inr rfl, Or.inr rfl, Or.inr rfl, Or.inr rfl, Or.inr rfl, Or.inr rfl, Or.inl rfl, trivial⟩
                      exact ih26 _ _ _ (by first | assumption | exact zq_i _ | exact zand_i _ _ | exact zor_i _ _ | exact zxor_i _ _ | exact zN _ | omega) (by first | assumption | exact zq_i _ | exact zand_i _ _ | exact zor_i _ _ | exact zxor_i _ _ | exact zN _ | omega) (by exact acnt_z i0 hw1 (by rw [aW1_i]; omega)) (by first | (rw [ahad_f i0 (by omega)]; omega) | (rw [ahad_t i0 (by omega) (by omega)]; omega)) (by first | exact aWI_a i0 hl (by omega) | exact aWI_b i0 (by omega) (by omega) (by omega) | exact aWI_c i0 hl (by omega) (by omega) (by omega) (by omega) (by omega) (by omega) | exact aWI_d i0 hl (by omega) (by omega) (by omega) (by omega)) (by omega)
              · refine zT.iconst dX13_wrong_95 ?_
                refine zT.istore 6 dX13_wrong_96 (by decide) (zpre1 rfl (zcI _)) ?_
                show zT G _ _ _ [zR b, zI k, zI t, zI (m (b + 2) (59 + 5 * k + 0)), zI (m (b + 2) (59 + 5 * k + 4)), zI u, zI 2, zI i, zI (zq (t < (m (b + 2) (59 + 5 * i + 2)) + (m (b + 2) (59 + 5 * i + 4)) ∧ (m (b + 2) (59 + 5 * i + 2)) < t + (m (b + 2) (59 + 5 * k + 4))))] _ _ _ _ _ _ _
                refine zT.aload_n 0 dX13_wrong_98 rfl rfl ?_
                refine zT.iload 7 dX13_wrong_99 rfl ?_
                refine zT.iconst dX13_wrong_101 ?_
                refine zT.callV (M' := mX13_go5) (b := b) [zI i, zI 1] [] dX13_wrong_102 kX13_280 rfl rfl (ci := 10) (r := (RX13, TX13, 62)) rfl (zMod.k hb) (C_X13_go5 hb (by first | assumption | exact zq_i _ | exact zand_i _ _ | exact zor_i _ _ | exact zxor_i _ _ | exact zN _ | omega) (by first | assumption | exact zq_i _ | exact zand_i _ _ | exact zor_i _ _ | exact zxor_i _ _ | exact zN _ | omega)) (by decide) (k' := 0) (n' := 0) (by omega) (by omega) (by decide) (zdk (v := some (zI (m (b + 2) (59 + 5 * i + 1)))) ?_) (fun _ _ _ _ h => h.elim)
                show zT G _ _ _ _ [zI (m (b + 2) (59 + 5 * i + 1))] _ _ _ _ _ _
                refine zT.aload_n 0 dX13_wrong_105 rfl rfl ?_
                refine zT.iload_n 1 dX13_wrong_106 rfl rfl ?_
                refine zT.iconst dX13_wrong_107 ?_
                refine zT.callV (M' := mX13_go5) (b := b) [zI k, zI 1] [zI (m (b + 2) (59 + 5 * i + 1))] dX13_wrong_108 kX13_280 rfl rfl (ci := 10) (r := (RX13, TX13, 62)) rfl (zMod.k hb) (C_X13_go5 hb (by first | assumption | exact zq_i _ | exact zand_i _ _ | exact zor_i _ _ | exact zxor_i _ _ | exact zN _ | omega) (by first | assumption | exact zq_i _ | exact zand_i _ _ | exact zor_i _ _ | exact zxor_i _ _ | exact zN _ | omega)) (by decide) (k' := 0) (n' := 0) (by omega) (by omega) (by simp only [List.map, zcI, zcJ, zcR, List.sum_cons, List.sum_nil]; decide) (zdk (v := some (zI (m (b + 2) (59 + 5 * k + 1)))) ?_) (fun _ _ _ _ h => h.elim)
                show zT G _ _ _ _ [zI (m (b + 2) (59 + 5 * k + 1)), zI (m (b + 2) (59 + 5 * i + 1))] _ _ _ _ _ _
                refine zT.ic_ne (tgt := 146) dX13_wrong_111 (by decide) (by first | assumption | exact zq_i _ | exact zand_i _ _ | exact zor_i _ _ | exact zxor_i _ _ | exact zN _ | omega) (by first | assumption | exact zq_i _ | exact zand_i _ _ | exact zor_i _ _ | exact zxor_i _ _ | exact zN _ | omega) (fun c111 => ?_) (fun c111 => ?_)
                · refine zT.iload 8 dX13_wrong_146 rfl ?_
                  refine zT.if_neB (tgt := 201) dX13_wrong_148 (by decide) (fun c148 => ?_) (fun c148 => ?_)
                  · refine zT.iinc 7 dX13_wrong_201 rfl (by decide) (zpre1 rfl (zcI _)) ?_
                    show zT G _ _ _ [zR b, zI k, zI t, zI (m (b + 2) (59 + 5 * k + 0)), zI (m (b + 2) (59 + 5 * k + 4)), zI u, zI 2, zI (i + 1), zI (zq (t < (m (b + 2) (59 + 5 * i + 2)) + (m (b + 2) (59 + 5 * i + 4)) ∧ (m (b + 2) (59 + 5 * i + 2)) < t + (m (b + 2) (59 + 5 * k + 4))))] _ _ _ _ _ _ _
                    refine zT.goto (tgt := 26) dX13_wrong_204 (by decide) ?_
                    refine zT.loc (V' := [zR b, zI k, zI t, zI (m (b + 2) (59 + 5 * k + 0)), zI (m (b + 2) (59 + 5 * k + 4)), zI u, zI 2, zI (i + 1), zU]) ?_ ⟨Or.inr rfl, Or.inr rfl, Or.inr rfl, Or.inr rfl, Or.inr rfl, Or.inr rfl, Or.inr rfl, Or.inr rfl, Or.inl rfl, trivial⟩
                    exact ih26 _ _ _ (by first | assumption | exact zq_i _ | exact zand_i _ _ | exact zor_i _ _ | exact zxor_i _ _ | exact zN _ | omega) (by first | assumption | exact zq_i _ | exact zand_i _ _ | exact zor_i _ _ | exact zxor_i _ _ | exact zN _ | omega) (by exact acnt_z i0 hw1 (by rw [aW1_i]; omega)) (by first | (rw [ahad_f i0 (by omega)]; omega) | (rw [ahad_t i0 (by omega) (by omega)]; omega)) (by first | exact aWI_a i0 hl (by omega) | exact aWI_b i0 (by omega) (by omega) (by omega) | exact aWI_c i0 hl (by omega) (by omega) (by omega) (by omega) (by omega) (by omega) | exact aWI_d i0 hl (by omega) (by omega) (by omega) (by omega)) (by omega)
                  · refine zT.iload_n 2 dX13_wrong_151 rfl rfl ?_
                    refine zT.aload_n 0 dX13_wrong_152 rfl rfl ?_
                    refine zT.iload 7 dX13_wrong_153 rfl ?_
                    refine zT.callV (M' := mX13_from) (b := b) [zI i] [zI t] dX13_wrong_155 kX13_297 rfl rfl (ci := 10) (r := (RX13, TX13, 62)) rfl (zMod.k hb) (C_X13_from hb (by first | assumption | exact zq_i _ | exact zand_i _ _ | exact zor_i _ _ | exact zxor_i _ _ | exact zN _ | omega)) (by decide) (k' := 0) (n' := 0) (by omega) (by omega) (by simp only [List.map, zcI, zcJ, zcR, List.sum_cons, List.sum_nil]; decide) (zdk (v := some (zI (m (b + 2) (59 + 5 * i + 2)))) ?_) (fun _ _ _ _ h => h.elim)
                    show zT G _ _ _ _ [zI (m (b + 2) (59 + 5 * i + 2)), zI t] _ _ _ _ _ _
                    refine zT.ic_le (tgt := 172) dX13_wrong_158 (by decide) (by first | assumption | exact zq_i _ | exact zand_i _ _ | exact zor_i _ _ | exact zxor_i _ _ | exact zN _ | omega) (by first | assumption | exact zq_i _ | exact zand_i _ _ | exact zor_i _ _ | exact zxor_i _ _ | exact zN _ | omega) (fun c158 => ?_) (fun c158 => ?_)
                    · refine zT.aload_n 0 dX13_wrong_172 rfl rfl ?_
                      refine zT.iload 7 dX13_wrong_173 rfl ?_
                      refine zT.callV (M' := mX13_from) (b := b) [zI i] [] dX13_wrong_175 kX13_297 rfl rfl (ci := 10) (r := (RX13, TX13, 62)) rfl (zMod.k hb) (C_X13_from hb (by first | assumption | exact zq_i _ | exact zand_i _ _ | exact zor_i _ _ | exact zxor_i _ _ | exact zN _ | omega)) (by decide) (k' := 0) (n' := 0) (by omega) (by omega) (by decide) (zdk (v := some (zI (m (b + 2) (59 + 5 * i + 2)))) ?_) (fun _ _ _ _ h => h.elim)
                      show zT G _ _ _ _ [zI (m (b + 2) (59 + 5 * i + 2))] _ _ _ _ _ _
                      refine zT.iload_n 2 dX13_wrong_178 rfl rfl ?_
                      refine zT.isub dX13_wrong_179 ?_
                      refine zT.iload 4 dX13_wrong_180 rfl ?_
                      refine zT.isub dX13_wrong_182 ?_
                      refine zT.aload_n 0 dX13_wrong_183 rfl rfl ?_
                      refine zT.getF dX13_wrong_184 fX13_13 rfl (zMod.k hb) (j := 14) (by decide) rfl (zMod.f1014 hb) ?_
                      refine zT.iconst dX13_wrong_187 ?_
                      refine zT.iald dX13_wrong_188 (zMod.a1014 hb) (by first | assumption | exact zq_i _ | exact zand_i _ _ | exact zor_i _ _ | exact zxor_i _ _ | exact zN _ | omega) (by rw [(zMod.n1014 hb)]; first | assumption | exact zq_i _ | exact zand_i _ _ | exact zor_i _ _ | exact zxor_i _ _ | exact zN _ | omega) (fun z188 => ?_)
                      refine zT.ic_ge (tgt := 201) dX13_wrong_189 (by decide) (by first | assumption | exact zq_i _ | exact zand_i _ _ | exact zor_i _ _ | exact zxor_i _ _ | exact zN _ | omega) (by first | assumption | exact zq_i _ | exact zand_i _ _ | exact zor_i _ _ | exact zxor_i _ _ | exact zN _ | omega) (fun c189 => ?_) (fun c189 => ?_)
                      · refine zT.iinc 7 dX13_wrong_201 rfl (by decide) (zpre1 rfl (zcI _)) ?_
                        show zT G _ _ _ [zR b, zI k, zI t, zI (m (b + 2) (59 + 5 * k + 0)), zI (m (b + 2) (59 + 5 * k + 4)), zI u, zI 2, zI (i + 1), zI (zq (t < (m (b + 2) (59 + 5 * i + 2)) + (m (b + 2) (59 + 5 * i + 4)) ∧ (m (b + 2) (59 + 5 * i + 2)) < t + (m (b + 2) (59 + 5 * k + 4))))] _ _ _ _ _ _ _
                        refine zT.goto (tgt := 26) dX13_wrong_204 (by decide) ?_
                        refine zT.loc (V' := [zR b, zI k, zI t, zI (m (b + 2) (59 + 5 * k + 0)), zI (m (b + 2) (59 + 5 * k + 4)), zI u, zI 2, zI (i + 1), zU]) ?_ ⟨Or.inr rfl, Or.inr rfl, Or.inr rfl, Or.inr rfl, Or.inr rfl, Or.inr rfl, Or.inr rfl, Or.inr rfl, Or.inl rfl, trivial⟩
                        exact ih26 _ _ _ (by first | assumption | exact zq_i _ | exact zand_i _ _ | exact zor_i _ _ | exact zxor_i _ _ | exact zN _ | omega) (by first | assumption | exact zq_i _ | exact zand_i _ _ | exact zor_i _ _ | exact zxor_i _ _ | exact zN _ | omega) (by exact acnt_z i0 hw1 (by rw [aW1_i]; omega)) (by first | (rw [ahad_f i0 (by omega)]; omega) | (rw [ahad_t i0 (by omega) (by omega)]; omega)) (by first | exact aWI_a i0 hl (by omega) | exact aWI_b i0 (by omega) (by omega) (by omega) | exact aWI_c i0 hl (by omega) (by omega) (by omega) (by omega) (by omega) (by omega) | exact aWI_d i0 hl (by omega) (by omega) (by omega) (by omega)) (by omega)
                      · refine zT.iload 6 dX13_wrong_192 rfl ?_
                        refine zT.iconst dX13_wrong_194 ?_
                        refine zT.ic_le (tgt := 201) dX13_wrong_195 (by decide) (by first | assumption | exact zq_i _ | exact zand_i _ _ | exact zor_i _ _ | exact zxor_i _ _ | exact zN _ | omega) (by first | assumption | exact zq_i _ | exact zand_i _ _ | exact zor_i _ _ | exact zxor_i _ _ | exact zN _ | omega) (fun c195 => ?_) (fun c195 => absurd c195 (by decide))
                        refine zT.iinc 7 dX13_wrong_201 rfl (by decide) (zpre1 rfl (zcI _)) ?_
                        show zT G _ _ _ [zR b, zI k, zI t, zI (m (b + 2) (59 + 5 * k + 0)), zI (m (b + 2) (59 + 5 * k + 4)), zI u, zI 2, zI (i + 1), zI (zq (t < (m (b + 2) (59 + 5 * i + 2)) + (m (b + 2) (59 + 5 * i + 4)) ∧ (m (b + 2) (59 + 5 * i + 2)) < t + (m (b + 2) (59 + 5 * k + 4))))] _ _ _ _ _ _ _
                        refine zT.goto (tgt := 26) dX13_wrong_204 (by decide) ?_
                        refine zT.loc (V' := [zR b, zI k, zI t, zI (m (b + 2) (59 + 5 * k + 0)), zI (m (b + 2) (59 + 5 * k + 4)), zI u, zI 2, zI (i + 1), zU]) ?_ ⟨Or.inr rfl, Or.inr rfl, Or.inr rfl, Or.inr rfl, Or.inr rfl, Or.inr rfl, Or.inr rfl, Or.inr rfl, Or.inl rfl, trivial⟩
                        exact ih26 _ _ _ (by first | assumption | exact zq_i _ | exact zand_i _ _ | exact zor_i _ _ | exact zxor_i _ _ | exact zN _ | omega) (by first | assumption | exact zq_i _ | exact zand_i _ _ | exact zor_i _ _ | exact zxor_i _ _ | exact zN _ | omega) (by exact acnt_z i0 hw1 (by rw [aW1_i]; omega)) (by first | (rw [ahad_f i0 (by omega)]; omega) | (rw [ahad_t i0 (by omega) (by omega)]; omega)) (by first | exact aWI_a i0 hl (by omega) | exact aWI_b i0 (by omega) (by omega) (by omega) | exact aWI_c i0 hl (by omega) (by omega) (by omega) (by omega) (by omega) (by omega) | exact aWI_d i0 hl (by omega) (by omega) (by omega) (by omega)) (by omega)
                    · refine zT.iload_n 2 dX13_wrong_161 rfl rfl ?_
                      refine zT.aload_n 0 dX13_wrong_162 rfl rfl ?_
                      refine zT.iload 7 dX13_wrong_163 rfl ?_
                      refine zT.callV (M' := mX13_behind) (b := b) [zI i] [zI t] dX13_wrong_165 kX13_306 rfl rfl (ci := 10) (r := (RX13, TX13, 62)) rfl (zMod.k hb) (C_X13_behind hb (by first | assumption | exact zq_i _ | exact zand_i _ _ | exact zor_i _ _ | exact zxor_i _ _ | exact zN _ | omega)) (by decide) (k' := 0) (n' := 0) (by omega) (by omega) (by simp only [List.map, zcI, zcJ, zcR, List.sum_cons, List.sum_nil]; decide) (zdk (v := some (zI (m (b + 2) (59 + 5 * i + 2) + m (b + 2) (59 + 5 * i + 4)))) ?_) (fun _ _ _ _ h => h.elim)
                      show zT G _ _ _ _ [zI (m (b + 2) (59 + 5 * i + 2) + m (b + 2) (59 + 5 * i + 4)), zI t] _ _ _ _ _ _
                      refine zT.isub dX13_wrong_168 ?_
                      refine zT.goto (tgt := 183) dX13_wrong_169 (by decide) ?_
                      refine zT.aload_n 0 dX13_wrong_183 rfl rfl ?_
                      refine zT.getF dX13_wrong_184 fX13_13 rfl (zMod.k hb) (j := 14) (by decide) rfl (zMod.f1014 hb) ?_
                      refine zT.iconst dX13_wrong_187 ?_
                      refine zT.iald dX13_wrong_188 (zMod.a1014 hb) (by first | assumption | exact zq_i _ | exact zand_i _ _ | exact zor_i _ _ | exact zxor_i _ _ | exact zN _ | omega) (by rw [(zMod.n1014 hb)]; first | assumption | exact zq_i _ | exact zand_i _ _ | exact zor_i _ _ | exact zxor_i _ _ | exact zN _ | omega) (fun z188 => ?_)
                      refine zT.ic_ge (tgt := 201) dX13_wrong_189 (by decide) (by first | assumption | exact zq_i _ | exact zand_i _ _ | exact zor_i _ _ | exact zxor_i _ _ | exact zN _ | omega) (by first | assumption | exact zq_i _ | exact zand_i _ _ | exact zor_i _ _ | exact zxor_i _ _ | exact zN _ | omega) (fun c189 => ?_) (fun c189 => ?_)
                      · refine zT.iinc 7 dX13_wrong_201 rfl (by decide) (zpre1 rfl (zcI _)) ?_
                        show zT G _ _ _ [zR b, zI k, zI t, zI (m (b + 2) (59 + 5 * k + 0)), zI (m (b + 2) (59 + 5 * k + 4)), zI u, zI 2, zI (i + 1), zI (zq (t < (m (b + 2) (59 + 5 * i + 2)) + (m (b + 2) (59 + 5 * i + 4)) ∧ (m (b + 2) (59 + 5 * i + 2)) < t + (m (b + 2) (59 + 5 * k + 4))))] _ _ _ _ _ _ _
                        refine zT.goto (tgt := 26) dX13_wrong_204 (by decide) ?_
                        refine zT.loc (V' := [zR b, zI k, zI t, zI (m (b + 2) (59 + 5 * k + 0)), zI (m (b + 2) (59 + 5 * k + 4)), zI u, zI 2, zI (i + 1), zU]) ?_ ⟨Or.inr rfl, Or.inr rfl, Or.inr rfl, Or.inr rfl, Or.inr rfl, Or.inr rfl, Or.inr rfl, Or.inr rfl, Or.inl rfl, trivial⟩
                        exact ih26 _ _ _ (by first | assumption | exact zq_i _ | exact zand_i _ _ | exact zor_i _ _ | exact zxor_i _ _ | exact zN _ | omega) (by first | assumption | exact zq_i _ | exact zand_i _ _ | exact zor_i _ _ | exact zxor_i _ _ | exact zN _ | omega) (by exact acnt_z i0 hw1 (by rw [aW1_i]; omega)) (by first | (rw [ahad_f i0 (by omega)]; omega) | (rw [ahad_t i0 (by omega) (by omega)]; omega)) (by first | exact aWI_a i0 hl (by omega) | exact aWI_b i0 (by omega) (by omega) (by omega) | exact aWI_c i0 hl (by omega) (by omega) (by omega) (by omega) (by omega) (by omega) | exact aWI_d i0 hl (by omega) (by omega) (by omega) (by omega)) (by omega)
                      · refine zT.iload 6 dX13_wrong_192 rfl ?_
                        refine zT.iconst dX13_wrong_194 ?_
                        refine zT.ic_le (tgt := 201) dX13_wrong_195 (by decide) (by first | assumption | exact zq_i _ | exact zand_i _ _ | exact zor_i _ _ | exact zxor_i _ _ | exact zN _ | omega) (by first | assumption | exact zq_i _ | exact zand_i _ _ | exact zor_i _ _ | exact zxor_i _ _ | exact zN _ | omega) (fun c195 => ?_) (fun c195 => absurd c195 (by decide))
                        refine zT.iinc 7 dX13_wrong_201 rfl (by decide) (zpre1 rfl (zcI _)) ?_
                        show zT G _ _ _ [zR b, zI k, zI t, zI (m (b + 2) (59 + 5 * k + 0)), zI (m (b + 2) (59 + 5 * k + 4)), zI u, zI 2, zI (i + 1), zI (zq (t < (m (b + 2) (59 + 5 * i + 2)) + (m (b + 2) (59 + 5 * i + 4)) ∧ (m (b + 2) (59 + 5 * i + 2)) < t + (m (b + 2) (59 + 5 * k + 4))))] _ _ _ _ _ _ _
                        refine zT.goto (tgt := 26) dX13_wrong_204 (by decide) ?_
                        refine zT.loc (V' := [zR b, zI k, zI t, zI (m (b + 2) (59 + 5 * k + 0)), zI (m (b + 2) (59 + 5 * k + 4)), zI u, zI 2, zI (i + 1), zU]) ?_ ⟨Or.inr rfl, Or.inr rfl, Or.inr rfl, Or.inr rfl, Or.inr rfl, Or.inr rfl, Or.inr rfl, Or.inr rfl, Or.inl rfl, trivial⟩
                        exact ih26 _ _ _ (by first | assumption | exact zq_i _ | exact zand_i _ _ | exact zor_i _ _ | exact zxor_i _ _ | exact zN _ | omega) (by first | assumption | exact zq_i _ | exact zand_i _ _ | exact zor_i _ _ | exact zxor_i _ _ | exact zN _ | omega) (by exact acnt_z i0 hw1 (by rw [aW1_i]; omega)) (by first | (rw [ahad_f i0 (by omega)]; omega) | (rw [ahad_t i0 (by omega) (by omega)]; omega)) (by first | exact aWI_a i0 hl (by omega) | exact aWI_b i0 (by omega) (by omega) (by omega) | exact aWI_c i0 hl (by omega) (by omega) (by omega) (by omega) (by omega) (by omega) | exact aWI_d i0 hl (by omega) (by omega) (by omega) (by omega)) (by omega)
                · refine zT.iload 5 dX13_wrong_114 rfl ?_
                  refine zT.aload_n 0 dX13_wrong_116 rfl rfl ?_
                  refine zT.iload 7 dX13_wrong_117 rfl ?_
                  refine zT.iconst dX13_wrong_119 ?_
                  refine zT.callV (M' := mX13_go5) (b := b) [zI i, zI 4] [zI u] dX13_wrong_120 kX13_280 rfl rfl (ci := 10) (r := (RX13, TX13, 62)) rfl (zMod.k hb) (C_X13_go5 hb (by first | assumption | exact zq_i _ | exact zand_i _ _ | exact zor_i _ _ | exact zxor_i _ _ | exact zN _ | omega) (by first | assumption | exact zq_i _ | exact zand_i _ _ | exact zor_i _ _ | exact zxor_i _ _ | exact zN _ | omega)) (by decide) (k' := 0) (n' := 0) (by omega) (by omega) (by simp only [List.map, zcI, zcJ, zcR, List.sum_cons, List.sum_nil]; decide) (zdk (v := some (zI (m (b + 2) (59 + 5 * i + 4)))) ?_) (fun _ _ _ _ h => h.elim)
                  show zT G _ _ _ _ [zI (m (b + 2) (59 + 5 * i + 4)), zI u] _ _ _ _ _ _
                  refine zT.iadd dX13_wrong_123 ?_
                  refine zT.istore 5 dX13_wrong_124 (by decide) (zpre1 rfl (zcI _)) ?_
                  show zT G _ _ _ [zR b, zI k, zI t, zI (m (b + 2) (59 + 5 * k + 0)), zI (m (b + 2) (59 + 5 * k + 4)), zI (u + (m (b + 2) (59 + 5 * i + 4))), zI 2, zI i, zI (zq (t < (m (b + 2) (59 + 5 * i + 2)) + (m (b + 2) (59 + 5 * i + 4)) ∧ (m (b + 2) (59 + 5 * i + 2)) < t + (m (b + 2) (59 + 5 * k + 4))))] _ _ _ _ _ _ _
                  refine zT.aload_n 0 dX13_wrong_126 rfl rfl ?_
                  refine zT.iload_n 3 dX13_wrong_127 rfl rfl ?_
                  refine zT.callV (M' := mX13_isOnce) (b := b) [zI (m (b + 2) (59 + 5 * k + 0))] [] dX13_wrong_128 kX13_303 rfl rfl (ci := 10) (r := (RX13, TX13, 62)) rfl (zMod.k hb) (C_X13_isOnce hb (by first | assumption | exact zq_i _ | exact zand_i _ _ | exact zor_i _ _ | exact zxor_i _ _ | exact zN _ | omega)) (by decide) (k' := 0) (n' := 0) (by omega) (by omega) (by decide) (zdk (v := some (zI (zq (0 < m (b + 2) (8 + 3 * (m (b + 2) (59 + 5 * k + 0)) + 2))))) ?_) (fun _ _ _ _ h => h.elim)
                  show zT G _ _ _ _ [zI (zq (0 < m (b + 2) (8 + 3 * (m (b + 2) (59 + 5 * k + 0)) + 2)))] _ _ _ _ _ _
                  refine zT.if_eqB (tgt := 201) dX13_wrong_131 (by decide) (fun c131 => ?_) (fun c131 => ?_)
                  · refine zT.iinc 7 dX13_wrong_201 rfl (by decide) (zpre1 rfl (zcI _)) ?_
                    show zT G _ _ _ [zR b, zI k, zI t, zI (m (b + 2) (59 + 5 * k + 0)), zI (m (b + 2) (59 + 5 * k + 4)), zI (u + (m (b + 2) (59 + 5 * i + 4))), zI 2, zI (i + 1), zI (zq (t < (m (b + 2) (59 + 5 * i + 2)) + (m (b + 2) (59 + 5 * i + 4)) ∧ (m (b + 2) (59 + 5 * i + 2)) < t + (m (b + 2) (59 + 5 * k + 4))))] _ _ _ _ _ _ _
                    refine zT.goto (tgt := 26) dX13_wrong_204 (by decide) ?_
                    refine zT.loc (V' := [zR b, zI k, zI t, zI (m (b + 2) (59 + 5 * k + 0)), zI (m (b + 2) (59 + 5 * k + 4)), zI (u + (m (b + 2) (59 + 5 * i + 4))), zI 2, zI (i + 1), zU]) ?_ ⟨Or.inr rfl, Or.inr rfl, Or.inr rfl, Or.inr rfl, Or.inr rfl, Or.inr rfl, Or.inr rfl, Or.inr rfl, Or.inl rfl, trivial⟩
                    exact ih26 _ _ _ (by first | assumption | exact zq_i _ | exact zand_i _ _ | exact zor_i _ _ | exact zxor_i _ _ | exact zN _ | omega) (by first | assumption | exact zq_i _ | exact zand_i _ _ | exact zor_i _ _ | exact zxor_i _ _ | exact zN _ | omega) (by exact acnt_z i0 hw1 (by rw [aW1_i]; omega)) (by first | (rw [ahad_f i0 (by omega)]; omega) | (rw [ahad_t i0 (by omega) (by omega)]; omega)) (by first | exact aWI_a i0 hl (by omega) | exact aWI_b i0 (by omega) (by omega) (by omega) | exact aWI_c i0 hl (by omega) (by omega) (by omega) (by omega) (by omega) (by omega) | exact aWI_d i0 hl (by omega) (by omega) (by omega) (by omega)) (by omega)
                  · refine zT.iload 6 dX13_wrong_134 rfl ?_
                    refine zT.iconst dX13_wrong_136 ?_
                    refine zT.ic_le (tgt := 201) dX13_wrong_137 (by decide) (by first | assumption | exact zq_i _ | exact zand_i _ _ | exact zor_i _ _ | exact zxor_i _ _ | exact zN _ | omega) (by first | assumption | exact zq_i _ | exact zand_i _ _ | exact zor_i _ _ | exact zxor_i _ _ | exact zN _ | omega) (fun c137 => ?_) (fun c137 => absurd c137 (by decide))
                    refine zT.iinc 7 dX13_wrong_201 rfl (by decide) (zpre1 rfl (zcI _)) ?_
                    show zT G _ _ _ [zR b, zI k, zI t, zI (m (b + 2) (59 + 5 * k + 0)), zI (m (b + 2) (59 + 5 * k + 4)), zI (u + (m (b + 2) (59 + 5 * i + 4))), zI 2, zI (i + 1), zI (zq (t < (m (b + 2) (59 + 5 * i + 2)) + (m (b + 2) (59 + 5 * i + 4)) ∧ (m (b + 2) (59 + 5 * i + 2)) < t + (m (b + 2) (59 + 5 * k + 4))))] _ _ _ _ _ _ _
                    refine zT.goto (tgt := 26) dX13_wrong_204 (by decide) ?_
                    refine zT.loc (V' := [zR b, zI k, zI t, zI (m (b + 2) (59 + 5 * k + 0)), zI (m (b + 2) (59 + 5 * k + 4)), zI (u + (m (b + 2) (59 + 5 * i + 4))), zI 2, zI (i + 1), zU]) ?_ ⟨Or.inr rfl, Or.inr rfl, Or.inr rfl, Or.inr rfl, Or.inr rfl, Or.inr rfl, Or.inr rfl, Or.inr rfl, Or.inl rfl, trivial⟩
                    exact ih26 _ _ _ (by first | assumption | exact zq_i _ | exact zand_i _ _ | exact zor_i _ _ | exact zxor_i _ _ | exact zN _ | omega) (by first | assumption | exact zq_i _ | exact zand_i _ _ | exact zor_i _ _ | exact zxor_i _ _ | exact zN _ | omega) (by exact acnt_z i0 hw1 (by rw [aW1_i]; omega)) (by first | (rw [ahad_f i0 (by omega)]; omega) | (rw [ahad_t i0 (by omega) (by omega)]; omega)) (by first | exact aWI_a i0 hl (by omega) | exact aWI_b i0 (by omega) (by omega) (by omega) | exact aWI_c i0 hl (by omega) (by omega) (by omega) (by omega) (by omega) (by omega) | exact aWI_d i0 hl (by omega) (by omega) (by omega) (by omega)) (by omega)
            · refine zT.goto (tgt := 201) dX13_wrong_87 (by decide) ?_
              refine zT.iinc 7 dX13_wrong_201 rfl (by decide) (zpre1 rfl (zcI _)) ?_
              show zT G _ _ _ [zR b, zI k, zI t, zI (m (b + 2) (59 + 5 * k + 0)), zI (m (b + 2) (59 + 5 * k + 4)), zI u, zI l, zI (i + 1), zI (zq (t < (m (b + 2) (59 + 5 * i + 2)) + (m (b + 2) (59 + 5 * i + 4)) ∧ (m (b + 2) (59 + 5 * i + 2)) < t + (m (b + 2) (59 + 5 * k + 4))))] _ _ _ _ _ _ _
              refine zT.goto (tgt := 26) dX13_wrong_204 (by decide) ?_
              refine zT.loc (V' := [zR b, zI k, zI t, zI (m (b + 2) (59 + 5 * k + 0)), zI (m (b + 2) (59 + 5 * k + 4)), zI u, zI l, zI (i + 1), zU]) ?_ ⟨Or.inr rfl, Or.inr rfl, Or.inr rfl, Or.inr rfl, Or.inr rfl, Or.inr rfl, Or.inr rfl, Or.inr rfl, Or.inl rfl, trivial⟩
              exact ih26 _ _ _ (by first | assumption | exact zq_i _ | exact zand_i _ _ | exact zor_i _ _ | exact zxor_i _ _ | exact zN _ | omega) (by first | assumption | exact zq_i _ | exact zand_i _ _ | exact zor_i _ _ | exact zxor_i _ _ | exact zN _ | omega) (by exact acnt_z i0 hw1 (by rw [aW1_i]; omega)) (by first | (rw [ahad_f i0 (by omega)]; omega) | (rw [ahad_t i0 (by omega) (by omega)]; omega)) (by first | exact aWI_a i0 hl (by omega) | exact aWI_b i0 (by omega) (by omega) (by omega) | exact aWI_c i0 hl (by omega) (by omega) (by omega) (by omega) (by omega) (by omega) | exact aWI_d i0 hl (by omega) (by omega) (by omega) (by omega)) (by omega)
          · refine zT.iconst dX13_wrong_74 ?_
            refine zT.iret dX13_wrong_75 rfl ?_
            exact ⟨by rw [aWhy_n k0, zite_t ((acnt_p k0).mpr ⟨i, by omega, by omega, by unfold aW1; omega⟩)], rfl, rfl⟩
  exact L26 _ _ _ _ (by first | assumption | exact zq_i _ | exact zand_i _ _ | exact zor_i _ _ | exact zxor_i _ _ | exact zN _ | omega) (by first | assumption | exact zq_i _ | exact zand_i _ _ | exact zor_i _ _ | exact zxor_i _ _ | exact zN _ | omega) (by rfl) (by rw [show ahad g (g k 0) (g k 1) 0 = 0 from rfl]; omega) (by exact aWI_0) (Nat.lt_succ_self _)

