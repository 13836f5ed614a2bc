/-! the model: hours (printed by mk_c.py) -/
set_option maxRecDepth 20000 in
set_option maxHeartbeats 2000000 in
theorem ct_X4_begin {G : jd_G} {γ : ll_B} {κ : ll_K} {μ : ll_U} {h : jd_H} (hw : WM G γ κ μ h) (hI : ll_I κ) (h99 : nHour κ + 1 = 24 → nNight κ + 1 ≤ 99) : jd_Ct G mX4_begin 3 (1) (4) [.ref (γ 0 0)] h (fun (r : Option Value) (h2 : jd_H) => r = none ∧ ∃ μ2 : ll_U, WM G γ (k_go κ) μ2 h2 ∧ μ2.1 0 0 = μ.1 0 0 ∧ ∀ j : jd_Id, (j.1 < 20 ∨ 40 ≤ j.1) → h2 j = h j) jd_no := by
  obtain ⟨⟨hG8, hS12, hP24, hH40, hN99, hH24⟩, hIg, hIs, hIp, hIh, hIl, hIq⟩ := id hI
  obtain ⟨mcG, hlG⟩ := w_mgates hw
  obtain ⟨mcS, hlS⟩ := w_msleepers hw
  obtain ⟨mcP, hlP⟩ := w_mparts hw
  obtain ⟨mcH, hlH⟩ := w_mhidings hw
  refine jd_ct (ls := [some (.ref (γ 0 0)), none, none, none, none, none]) rfl rfl (by decide) (Nat.le_of_ble_eq_true rfl) rfl ?_
  have w120 : ∀ (κ1 : ll_K) (hh0 : jd_H) (hw1 : WM G γ κ1 μ hh0) (hI1 : ll_I κ1) (hQ : ∀ (μ2 : ll_U) (h2 : jd_H), WM G γ (k_wch (k_spread κ1) (nG κ1)) μ2 h2 → μ2.1 0 0 = μ.1 0 0 → (∀ j : jd_Id, (j.1 < 20 ∨ 40 ≤ j.1) → h2 j = hh0 j) → (fun (r : Option Value) (h2 : jd_H) => r = none ∧ ∃ μ2 : ll_U, WM G γ (k_go κ) μ2 h2 ∧ μ2.1 0 0 = μ.1 0 0 ∧ ∀ j : jd_Id, (j.1 < 20 ∨ 40 ≤ j.1) → h2 j = h j) none h2), jd_W G mX4_begin 3 0 0 120 [some (.ref (γ 0 0)), none, none, none, none, none] [] hh0 (fun (r : Option Value) (h2 : jd_H) => r = none ∧ ∃ μ2 : ll_U, WM G γ (k_go κ) μ2 h2 ∧ μ2.1 0 0 = μ.1 0 0 ∧ ∀ j : jd_Id, (j.1 < 20 ∨ 40 ≤ j.1) → h2 j = h j) jd_no := by
    intro κ1 hh0 hw1 hI1 hQ
    obtain ⟨⟨hG8, hS12, hP24, hH40, hN99, hH24⟩, hIg, hIs, hIp, hIh, hIl, hIq⟩ := id hI1
    refine jd_iconst (v := 0) dX4_begin_120 (by decide) ?_
    refine jd_istore_n (ls' := [_, _, _, _, _, _]) dX4_begin_121 (Nat.le_of_ble_eq_true rfl) rfl rfl ?_
    have lp122_1 : ∀ (j : Nat) (x : Nat) (hx0 : x + j = 776) (hh : jd_H) (hw2 : WM G γ κ1 (mu_m μ (clF (μ.1 1) x)) hh) (hf2 : ∀ j : jd_Id, (j.1 < 20 ∨ 40 ≤ j.1) → hh j = hh0 j), jd_W G mX4_begin 3 (0) (0) 122 [some (.ref (γ 0 0)), some (.int (nI x)), none, none, none, none] [] hh (fun (r : Option Value) (h2 : jd_H) => r = none ∧ ∃ μ2 : ll_U, WM G γ (k_go κ) μ2 h2 ∧ μ2.1 0 0 = μ.1 0 0 ∧ ∀ j : jd_Id, (j.1 < 20 ∨ 40 ≤ j.1) → h2 j = h j) jd_no := by
      intro j
      induction j with
      | zero =>
        intro x hx0 hh hw2 hf2
        obtain rfl : x = 776 := by omega
        refine jd_iload_n dX4_begin_122 rfl ?_
        refine jd_aload_n dX4_begin_123 rfl ?_
        refine jd_get in_X4 (w_mthis hw2) 11 q1477 dX4_begin_124 rfl (Nat.le_of_ble_eq_true rfl) rfl ?_
        refine jd_alen (w_mmore hw2) dX4_begin_127 1 rfl ?_
        refine jd_ncmp_ge (a := 776) (b := 776) (tgt := 144) dX4_begin_128 (by decide) (by omega) (by omega) (fun z2 => ?_) (fun z3 => ?_)
        · refine jd_arr (w_mmore hw2) (f2 := moF κ1 0 0 0) (fun y hy => clF_end hy) ?_
          refine jd_updG (fun h9 hs9 ho9 => ?_)
          have hw9 : WM G γ κ1 (mu_m μ (moF κ1 0 0 0)) h9 := by
            have w := m_more hw2 hs9 ho9
            rw [mu_mm] at w; exact w
          refine jd_iconst (v := 0) dX4_begin_144 (by decide) ?_
          refine jd_istore_n (ls' := [_, _, _, _, _, _]) dX4_begin_145 (Nat.le_of_ble_eq_true rfl) rfl rfl ?_
          have lp146_4 : ∀ (j : Nat) (k : Nat) (hk0 : k + j = nG κ1) (hh : jd_H) (hw2 : WM G γ κ1 (mu_m μ (moF κ1 k 0 0)) hh) (hf2 : ∀ j : jd_Id, (j.1 < 20 ∨ 40 ≤ j.1) → hh j = hh0 j), jd_W G mX4_begin 3 (0) (0) 146 [some (.ref (γ 0 0)), some (.int (nI k)), none, none, none, none] [] hh (fun (r : Option Value) (h2 : jd_H) => r = none ∧ ∃ μ2 : ll_U, WM G γ (k_go κ) μ2 h2 ∧ μ2.1 0 0 = μ.1 0 0 ∧ ∀ j : jd_Id, (j.1 < 20 ∨ 40 ≤ j.1) → h2 j = h j) jd_no := by
            intro j
            induction j with
            | zero =>
              intro k hk0 hh hw2 hf2
              obtain rfl : k = nG κ1 := by omega
              refine jd_iload_n dX4_begin_146 rfl ?_
              refine jd_aload_n dX4_begin_147 rfl ?_
              refine jd_get in_X4 (w_mthis hw2) 7 q1473 dX4_begin_148 rfl (Nat.le_of_ble_eq_true rfl) rfl ?_
              obtain ⟨mcl5, hl5_⟩ := w_mgates hw2
              refine jd_pV (As := []) (rest := [.int (nI (nG κ1))]) (ct_J2_size hl5_ (show nG κ1 ≤ 900 by omega)) (jd_rv hl5_ 15 rfl rfl) rfl q1533 q344 q1999 q83 q346 nJ2_size dX4_begin_151 rfl rfl rfl (Nat.le_of_ble_eq_true rfl) ⟨(Nat.le_of_ble_eq_true rfl), (Nat.le_of_ble_eq_true rfl)⟩ ?_
              refine jd_ncmp_ge (a := nG κ1) (b := nG κ1) (tgt := 274) dX4_begin_154 (by decide) (by omega) (by omega) (fun z6 => ?_) (fun z7 => ?_)
              · refine jd_iconst (v := 0) dX4_begin_274 (by decide) ?_
                refine jd_istore_n (ls' := [_, _, _, _, _, _]) dX4_begin_275 (Nat.le_of_ble_eq_true rfl) rfl rfl ?_
                have lp276_8 : ∀ (j : Nat) (k : Nat) (hk0 : k + j = nG κ1) (hh : jd_H) (hw2 : WM G γ (k_beg κ1 k) (mu_m μ (moF κ1 (nG κ1) 0 0)) hh) (hf2 : ∀ j : jd_Id, (j.1 < 20 ∨ 40 ≤ j.1) → hh j = hh0 j), jd_W G mX4_begin 3 (0) (0) 276 [some (.ref (γ 0 0)), some (.int (nI k)), none, none, none, none] [] hh (fun (r : Option Value) (h2 : jd_H) => r = none ∧ ∃ μ2 : ll_U, WM G γ (k_go κ) μ2 h2 ∧ μ2.1 0 0 = μ.1 0 0 ∧ ∀ j : jd_Id, (j.1 < 20 ∨ 40 ≤ j.1) → h2 j = h j) jd_no := by
                  intro j
                  induction j with
                  | zero =>
                    intro k hk0 hh hw2 hf2
                    obtain rfl : k = nG κ1 := by omega
                    refine jd_iload_n dX4_begin_276 rfl ?_
                    refine jd_aload_n dX4_begin_277 rfl ?_
                    refine jd_get in_X4 (w_mthis hw2) 7 q1473 dX4_begin_278 rfl (Nat.le_of_ble_eq_true rfl) rfl ?_
                    obtain ⟨mcl9, hl9_⟩ := w_mgates hw2
                    refine jd_pV (As := []) (rest := [.int (nI (nG κ1))]) (ct_J2_size hl9_ (show nG κ1 ≤ 900 by omega)) (jd_rv hl9_ 15 rfl rfl) rfl q1533 q344 q1999 q83 q346 nJ2_size dX4_begin_281 rfl rfl rfl (Nat.le_of_ble_eq_true rfl) ⟨(Nat.le_of_ble_eq_true rfl), (Nat.le_of_ble_eq_true rfl)⟩ ?_
                    refine jd_ncmp_ge (a := nG κ1) (b := nG κ1) (tgt := 365) dX4_begin_284 (by decide) (by omega) (by omega) (fun z10 => ?_) (fun z11 => ?_)
                    · exact jd_vret dX4_begin_365 rfl (hQ (mu_m μ (moF κ1 (nG κ1) 0 0)) _ (by rw [← beg_n]; exact hw2) rfl (fun j hj => (hf2 j hj)))
                    · omega
                  | succ j ih276 =>
                    intro k hk0 hh hw2 hf2
                    have hhr : nHour (k_wch (k_spP κ1 (k + 1)) k) < 24 := hH24
                    refine jd_iload_n dX4_begin_276 rfl ?_
                    refine jd_aload_n dX4_begin_277 rfl ?_
                    refine jd_get in_X4 (w_mthis hw2) 7 q1473 dX4_begin_278 rfl (Nat.le_of_ble_eq_true rfl) rfl ?_
                    obtain ⟨mcl12, hl12_⟩ := w_mgates hw2
                    refine jd_pV (As := []) (rest := [.int (nI k)]) (ct_J2_size hl12_ (show nG κ1 ≤ 900 by omega)) (jd_rv hl12_ 15 rfl rfl) rfl q1533 q344 q1999 q83 q346 nJ2_size dX4_begin_281 rfl rfl rfl (Nat.le_of_ble_eq_true rfl) ⟨(Nat.le_of_ble_eq_true rfl), (Nat.le_of_ble_eq_true rfl)⟩ ?_
                    refine jd_ncmp_ge (a := k) (b := nG κ1) (tgt := 365) dX4_begin_284 (by decide) (by omega) (by omega) (fun z13 => ?_) (fun z14 => ?_)
                    · omega
                    · refine jd_aload_n dX4_begin_287 rfl ?_
                      refine jd_get in_X4 (w_mthis hw2) 7 q1473 dX4_begin_288 rfl (Nat.le_of_ble_eq_true rfl) rfl ?_
                      refine jd_iload_n dX4_begin_291 rfl ?_
                      refine jd_pV (As := [.int (nI k)]) (rest := []) (ct_J2_get hl12_ (show nG κ1 ≤ 900 by omega) (k := k) (show k < nG κ1 by omega)) (jd_rv hl12_ 15 rfl rfl) rfl q1584 q325 q2001 q83 q327 nJ2_get dX4_begin_292 rfl rfl rfl (Nat.le_of_ble_eq_true rfl) ⟨(Nat.le_of_ble_eq_true rfl), (Nat.le_of_ble_eq_true rfl)⟩ ?_
                      refine jd_castS (jd_rv ((w_mgate hw2) k (show k < nG κ1 by omega)) 11 rfl rfl) (ci := 11) rfl q1534 dX4_begin_295 ?_
                      refine jd_astore_n (ls' := [_, _, _, _, _, _]) dX4_begin_298 (Nat.le_of_ble_eq_true rfl) rfl rfl ?_
                      refine jd_iconst (v := 0) dX4_begin_299 (by decide) ?_
                      refine jd_istore_n (ls' := [_, _, _, _, _, _]) dX4_begin_300 (Nat.le_of_ble_eq_true rfl) rfl rfl ?_
                      have lp301_15 : ∀ (j : Nat) (v : Nat) (hv0 : v + j = 97) (hh : jd_H) (hw2 : WM G γ (ll_sr (k_beg κ1 k) k (revV κ1 k v)) (mu_m μ (moF κ1 (nG κ1) 0 0)) hh) (hf2 : ∀ j : jd_Id, (j.1 < 20 ∨ 40 ≤ j.1) → hh j = hh0 j), jd_W G mX4_begin 3 (0) (0) 301 [some (.ref (γ 0 0)), some (.int (nI k)), some (.ref (γ 2 k)), some (.int (nI v)), none, none] [] hh (fun (r : Option Value) (h2 : jd_H) => r = none ∧ ∃ μ2 : ll_U, WM G γ (k_go κ) μ2 h2 ∧ μ2.1 0 0 = μ.1 0 0 ∧ ∀ j : jd_Id, (j.1 < 20 ∨ 40 ≤ j.1) → h2 j = h j) jd_no := by
                        intro j
                        induction j with
                        | zero =>
                          intro v hv0 hh hw2 hf2
                          obtain rfl : v = 97 := by omega
                          refine jd_iload_n dX4_begin_301 rfl ?_
                          refine jd_bipush (v := 97) dX4_begin_302 (by decide) ?_
                          refine jd_ncmp_ge (a := 97) (b := 97) (tgt := 334) dX4_begin_304 (by decide) (by omega) (by omega) (fun z16 => ?_) (fun z17 => ?_)
                          · refine jd_arr (w_mrev hw2 k (show k < nG κ1 by omega)) (f2 := fun v => jd_b (spV κ1 k (nG κ1) v = true)) (fun v hv => beg_r97 hv) ?_
                            refine jd_updG (fun h9 hs9 ho9 => ?_)
                            have hw9 : WM G γ (k_wch (k_spP κ1 (k + 1)) k) (mu_m μ (moF κ1 (nG κ1) 0 0)) h9 := by
                              have w := m_gRev hw2 (show k < nG κ1 by omega) (V := spV κ1 k (nG κ1)) rfl hs9 ho9
                              rw [beg_r2] at w; exact w
                            refine jd_aload_n dX4_begin_334 rfl ?_
                            refine jd_aload_n dX4_begin_335 rfl ?_
                            refine jd_aload_n dX4_begin_336 rfl ?_
                            refine jd_get in_X4 (w_mthis hw9) 2 q1468 dX4_begin_337 rfl (Nat.le_of_ble_eq_true rfl) rfl ?_
                            refine jd_pV (As := [.int (nI ((nHour (k_wch (k_spP κ1 (k + 1)) k))))]) (rest := [.ref (γ 2 k)]) (ct_X8_isOpen ((w_mgate hw9) k (show k < nG κ1 by omega)) (nI ((nHour (k_wch (k_spP κ1 (k + 1)) k))))) (jd_rv ((w_mgate hw9) k (show k < nG κ1 by omega)) 11 rfl rfl) rfl q1763 q1764 q1765 q104 q1766 nX8_isOpen dX4_begin_340 rfl rfl rfl (Nat.le_of_ble_eq_true rfl) ⟨(Nat.le_of_ble_eq_true rfl), (Nat.le_of_ble_eq_true rfl)⟩ ?_
                            refine jd_top (w := .int (jd_b (openAt (k_wch (k_spP κ1 (k + 1)) k) k (nI (nHour (k_wch (k_spP κ1 (k + 1)) k)))))) (congrArg Value.int (jd_bcong ⟨fun w => by rw [open_eq] at w; exact w, fun w => by rw [open_eq]; exact w⟩)) ?_
                            refine jd_mg1 356 (.int ((if openAt (k_wch (k_spP κ1 (k + 1)) k) k (nI (nHour (k_wch (k_spP κ1 (k + 1)) k))) then ((gWatch (k_wch (k_spP κ1 (k + 1)) k) k) + 1) else 0))) (fun hj18 => ?_) ?_
                            · refine jd_bif_eq (tgt := 355) dX4_begin_343 (by decide) (fun z19 => ?_) (fun z20 => ?_)
                              · refine jd_iconst (v := 0) dX4_begin_355 (by decide) ?_
                                exact jd_top (congrArg Value.int (by rw [if_neg z19])) hj18
                              · refine jd_aload_n dX4_begin_346 rfl ?_
                                refine jd_getN in_X8 ((w_mgate hw9) k (show k < nG κ1 by omega)) 5 q1553 dX4_begin_347 rfl (Nat.le_of_ble_eq_true rfl) rfl ?_
                                refine jd_iconst (v := 1) dX4_begin_350 (by decide) ?_
                                refine jd_iadd dX4_begin_351 ?_
                                refine jd_goto (tgt := 356) dX4_begin_352 (by decide) ?_
                                exact jd_top (congrArg Value.int (by rw [if_pos z20])) hj18
                            · refine jd_putN (fs' := [_, _, _, _, _, _, _, _]) in_X8 tyX8_ok nmX8 ((w_mgate hw9) k (show k < nG κ1 by omega)) 5 q1553 dX4_begin_356 rfl (Nat.le_of_ble_eq_true rfl) rfl rfl rfl (Nat.le_of_ble_eq_true rfl) rfl ?_
                              refine jd_updG (fun h21 hs21 ho21 => ?_)
                              have hw21 := m_gWatch hw9 (k := k) (show k < nG κ1 by omega) (v := (if openAt (k_wch (k_spP κ1 (k + 1)) k) k (nI (nHour (k_wch (k_spP κ1 (k + 1)) k))) then ((gWatch (k_wch (k_spP κ1 (k + 1)) k) k) + 1) else 0)) hs21 ho21
                              refine jd_iincN (n := 1) (ls' := [_, _, _, _, _, _]) dX4_begin_359 rfl (Nat.le_of_ble_eq_true rfl) rfl rfl ?_
                              refine jd_goto (tgt := 276) dX4_begin_362 (by decide) ?_
                              have hw3 : WM G γ (k_beg κ1 (k + 1)) (mu_m μ (moF κ1 (nG κ1) 0 0)) h21 := by rw [← beg_s]; exact hw21
                              refine jd_lsub [some (.ref (γ 0 0)), some (.int (nI (k + 1))), none, none, none, none] ⟨rfl, rfl, trivial⟩ ?_
                              exact ih276 (k + 1) (by omega) h21 hw3 (fun j hj => ((ho21 j (ll_nel (by decide) hj)).trans ((ho9 j (ll_nel (by decide) hj)).trans (hf2 j hj))))
                          · omega
                        | succ j ih301 =>
                          intro v hv0 hh hw2 hf2
                          refine jd_iload_n dX4_begin_301 rfl ?_
                          refine jd_bipush (v := 97) dX4_begin_302 (by decide) ?_
                          refine jd_ncmp_ge (a := v) (b := 97) (tgt := 334) dX4_begin_304 (by decide) (by omega) (by omega) (fun z22 => ?_) (fun z23 => ?_)
                          · omega
                          · refine jd_aload_n dX4_begin_307 rfl ?_
                            refine jd_get in_X4 (w_mthis hw2) 11 q1477 dX4_begin_308 rfl (Nat.le_of_ble_eq_true rfl) rfl ?_
                            refine jd_iload_n dX4_begin_311 rfl ?_
                            refine jd_bipush (v := 97) dX4_begin_312 (by decide) ?_
                            refine jd_imulN (a := k) (b := 97) dX4_begin_314 ?_
                            refine jd_iload_n dX4_begin_315 rfl ?_
                            refine jd_iaddN (a := (k * 97)) (b := v) dX4_begin_316 ?_
                            refine jd_zald (w_mmore hw2) dX4_begin_317 (vp_in_nI (by omega) (by omega)) ?_
                            refine jd_top (w := .int (((mu_m μ (moF κ1 (nG κ1) 0 0)).1 1 (((k * 97) + v))))) (by rw [nI_clamp (by omega)]) ?_
                            refine jd_top (w := .int (jd_b (spV κ1 k (nG κ1) v = true))) (congrArg Value.int (moF_at (show k < nG κ1 by omega) (show v < 97 by omega))) ?_
                            refine jd_bif_eq (tgt := 328) dX4_begin_318 (by decide) (fun z24 => ?_) (fun z25 => ?_)
                            · refine jd_iincN (n := 1) (ls' := [_, _, _, _, _, _]) dX4_begin_328 rfl (Nat.le_of_ble_eq_true rfl) rfl rfl ?_
                              refine jd_goto (tgt := 301) dX4_begin_331 (by decide) ?_
                              have hw3 : WM G γ (ll_sr (k_beg κ1 k) k (revV κ1 k (v + 1))) (mu_m μ (moF κ1 (nG κ1) 0 0)) hh := by rw [← revV_n (show k < nG κ1 by omega) (show v < 97 by omega) z24]; exact hw2
                              refine jd_lsub [some (.ref (γ 0 0)), some (.int (nI k)), some (.ref (γ 2 k)), some (.int (nI (v + 1))), none, none] ⟨rfl, rfl, rfl, rfl, trivial⟩ ?_
                              exact ih301 (v + 1) (by omega) hh hw3 (fun j hj => (hf2 j hj))
                            · refine jd_aload_n dX4_begin_321 rfl ?_
                              refine jd_getN in_X8 ((w_mgate hw2) k (show k < nG κ1 by omega)) 7 q1557 dX4_begin_322 rfl (Nat.le_of_ble_eq_true rfl) rfl ?_
                              refine jd_iload_n dX4_begin_325 rfl ?_
                              refine jd_iconst (v := 1) dX4_begin_326 (by decide) ?_
                              refine jd_zast ((w_mrev hw2) k (show k < nG κ1 by omega)) dX4_begin_327 (vp_in_nI (by omega) (by omega)) (Or.inr rfl) ?_
                              refine jd_updG (fun h26 hs26 ho26 => ?_)
                              have hw26 := m_gRev hw2 (k := k) (show k < nG κ1 by omega) (V := (fun x => if x = v then true else gRev (ll_sr (k_beg κ1 k) k (revV κ1 k v)) k x)) (rev_upd (by omega)) hs26 ho26
                              refine jd_iincN (n := 1) (ls' := [_, _, _, _, _, _]) dX4_begin_328 rfl (Nat.le_of_ble_eq_true rfl) rfl rfl ?_
                              refine jd_goto (tgt := 301) dX4_begin_331 (by decide) ?_
                              have hw3 : WM G γ (ll_sr (k_beg κ1 k) k (revV κ1 k (v + 1))) (mu_m μ (moF κ1 (nG κ1) 0 0)) h26 := by rw [← beg_ry z25]; exact hw26
                              refine jd_lsub [some (.ref (γ 0 0)), some (.int (nI k)), some (.ref (γ 2 k)), some (.int (nI (v + 1))), none, none] ⟨rfl, rfl, rfl, rfl, trivial⟩ ?_
                              exact ih301 (v + 1) (by omega) h26 hw3 (fun j hj => ((ho26 j (ll_nel (by decide) hj)).trans (hf2 j hj)))
                      refine jd_lsub [some (.ref (γ 0 0)), some (.int (nI k)), some (.ref (γ 2 k)), some (.int (nI 0)), none, none] ⟨rfl, rfl, rfl, rfl, trivial⟩ ?_
                      exact lp301_15 (97) 0 (by omega) hh (by rw [beg_r0]; exact hw2) (fun j hj => (hf2 j hj))
                refine jd_lsub [some (.ref (γ 0 0)), some (.int (nI 0)), none, none, none, none] ⟨rfl, rfl, trivial⟩ ?_
                exact lp276_8 (nG κ1) 0 (by omega) hh (by rw [beg_0]; exact hw2) (fun j hj => (hf2 j hj))
              · omega
            | succ j ih146 =>
              intro k hk0 hh hw2 hf2
              have hIk := hIg k (by omega)
              refine jd_iload_n dX4_begin_146 rfl ?_
              refine jd_aload_n dX4_begin_147 rfl ?_
              refine jd_get in_X4 (w_mthis hw2) 7 q1473 dX4_begin_148 rfl (Nat.le_of_ble_eq_true rfl) rfl ?_
              obtain ⟨mcl27, hl27_⟩ := w_mgates hw2
              refine jd_pV (As := []) (rest := [.int (nI k)]) (ct_J2_size hl27_ (show nG κ1 ≤ 900 by omega)) (jd_rv hl27_ 15 rfl rfl) rfl q1533 q344 q1999 q83 q346 nJ2_size dX4_begin_151 rfl rfl rfl (Nat.le_of_ble_eq_true rfl) ⟨(Nat.le_of_ble_eq_true rfl), (Nat.le_of_ble_eq_true rfl)⟩ ?_
              refine jd_ncmp_ge (a := k) (b := nG κ1) (tgt := 274) dX4_begin_154 (by decide) (by omega) (by omega) (fun z28 => ?_) (fun z29 => ?_)
              · omega
              · refine jd_iconst (v := 0) dX4_begin_157 (by decide) ?_
                refine jd_istore_n (ls' := [_, _, _, _, _, _]) dX4_begin_158 (Nat.le_of_ble_eq_true rfl) rfl rfl ?_
                have lp159_30 : ∀ (j : Nat) (o : Nat) (ho0 : o + j = nG κ1) (hh : jd_H) (hw2 : WM G γ κ1 (mu_m μ (moF κ1 k o 0)) hh) (hf2 : ∀ j : jd_Id, (j.1 < 20 ∨ 40 ≤ j.1) → hh j = hh0 j), jd_W G mX4_begin 3 (0) (0) 159 [some (.ref (γ 0 0)), some (.int (nI k)), some (.int (nI o)), none, none, none] [] hh (fun (r : Option Value) (h2 : jd_H) => r = none ∧ ∃ μ2 : ll_U, WM G γ (k_go κ) μ2 h2 ∧ μ2.1 0 0 = μ.1 0 0 ∧ ∀ j : jd_Id, (j.1 < 20 ∨ 40 ≤ j.1) → h2 j = h j) jd_no := by
                  intro j
                  induction j with
                  | zero =>
                    intro o ho0 hh hw2 hf2
                    obtain rfl : o = nG κ1 := by omega
                    refine jd_iload_n dX4_begin_159 rfl ?_
                    refine jd_aload_n dX4_begin_160 rfl ?_
                    refine jd_get in_X4 (w_mthis hw2) 7 q1473 dX4_begin_161 rfl (Nat.le_of_ble_eq_true rfl) rfl ?_
                    obtain ⟨mcl31, hl31_⟩ := w_mgates hw2
                    refine jd_pV (As := []) (rest := [.int (nI (nG κ1))]) (ct_J2_size hl31_ (show nG κ1 ≤ 900 by omega)) (jd_rv hl31_ 15 rfl rfl) rfl q1533 q344 q1999 q83 q346 nJ2_size dX4_begin_164 rfl rfl rfl (Nat.le_of_ble_eq_true rfl) ⟨(Nat.le_of_ble_eq_true rfl), (Nat.le_of_ble_eq_true rfl)⟩ ?_
                    refine jd_ncmp_ge (a := nG κ1) (b := nG κ1) (tgt := 268) dX4_begin_167 (by decide) (by omega) (by omega) (fun z32 => ?_) (fun z33 => ?_)
                    · refine jd_iincN (n := 1) (ls' := [_, _, _, _, _, _]) dX4_begin_268 rfl (Nat.le_of_ble_eq_true rfl) rfl rfl ?_
                      refine jd_goto (tgt := 146) dX4_begin_271 (by decide) ?_
                      have hw3 : WM G γ κ1 (mu_m μ (moF κ1 (k + 1) 0 0)) hh := by rw [← moF_row]; exact hw2
                      refine jd_lsub [some (.ref (γ 0 0)), some (.int (nI (k + 1))), none, none, none, none] ⟨rfl, rfl, trivial⟩ ?_
                      exact ih146 (k + 1) (by omega) hh hw3 (fun j hj => (hf2 j hj))
                    · omega
                  | succ j ih159 =>
                    intro o ho0 hh hw2 hf2
                    have hIo := hIg o (by omega)
                    refine jd_iload_n dX4_begin_159 rfl ?_
                    refine jd_aload_n dX4_begin_160 rfl ?_
                    refine jd_get in_X4 (w_mthis hw2) 7 q1473 dX4_begin_161 rfl (Nat.le_of_ble_eq_true rfl) rfl ?_
                    obtain ⟨mcl34, hl34_⟩ := w_mgates hw2
                    refine jd_pV (As := []) (rest := [.int (nI o)]) (ct_J2_size hl34_ (show nG κ1 ≤ 900 by omega)) (jd_rv hl34_ 15 rfl rfl) rfl q1533 q344 q1999 q83 q346 nJ2_size dX4_begin_164 rfl rfl rfl (Nat.le_of_ble_eq_true rfl) ⟨(Nat.le_of_ble_eq_true rfl), (Nat.le_of_ble_eq_true rfl)⟩ ?_
                    refine jd_ncmp_ge (a := o) (b := nG κ1) (tgt := 268) dX4_begin_167 (by decide) (by omega) (by omega) (fun z35 => ?_) (fun z36 => ?_)
                    · omega
                    · refine jd_aload_n dX4_begin_170 rfl ?_
                      refine jd_get in_X4 (w_mthis hw2) 7 q1473 dX4_begin_171 rfl (Nat.le_of_ble_eq_true rfl) rfl ?_
                      refine jd_iload_n dX4_begin_174 rfl ?_
                      refine jd_pV (As := [.int (nI k)]) (rest := []) (ct_J2_get hl34_ (show nG κ1 ≤ 900 by omega) (k := k) (show k < nG κ1 by omega)) (jd_rv hl34_ 15 rfl rfl) rfl q1584 q325 q2001 q83 q327 nJ2_get dX4_begin_175 rfl rfl rfl (Nat.le_of_ble_eq_true rfl) ⟨(Nat.le_of_ble_eq_true rfl), (Nat.le_of_ble_eq_true rfl)⟩ ?_
                      refine jd_castS (jd_rv ((w_mgate hw2) k (show k < nG κ1 by omega)) 11 rfl rfl) (ci := 11) rfl q1534 dX4_begin_178 ?_
                      refine jd_astore_n (ls' := [_, _, _, _, _, _]) dX4_begin_181 (Nat.le_of_ble_eq_true rfl) rfl rfl ?_
                      refine jd_aload_n dX4_begin_182 rfl ?_
                      refine jd_get in_X4 (w_mthis hw2) 7 q1473 dX4_begin_183 rfl (Nat.le_of_ble_eq_true rfl) rfl ?_
                      refine jd_iload_n dX4_begin_186 rfl ?_
                      refine jd_pV (As := [.int (nI o)]) (rest := []) (ct_J2_get hl34_ (show nG κ1 ≤ 900 by omega) (k := o) (show o < nG κ1 by omega)) (jd_rv hl34_ 15 rfl rfl) rfl q1584 q325 q2001 q83 q327 nJ2_get dX4_begin_187 rfl rfl rfl (Nat.le_of_ble_eq_true rfl) ⟨(Nat.le_of_ble_eq_true rfl), (Nat.le_of_ble_eq_true rfl)⟩ ?_
                      refine jd_castS (jd_rv ((w_mgate hw2) o (show o < nG κ1 by omega)) 11 rfl rfl) (ci := 11) rfl q1534 dX4_begin_190 ?_
                      refine jd_astore (ls' := [_, _, _, _, _, _]) dX4_begin_193 (Nat.le_of_ble_eq_true rfl) rfl rfl ?_
                      refine jd_aload_n dX4_begin_195 rfl ?_
                      refine jd_aload dX4_begin_196 rfl ?_
                      refine jd_getN in_X8 ((w_mgate hw2) o (show o < nG κ1 by omega)) 0 q1543 dX4_begin_198 rfl (Nat.le_of_ble_eq_true rfl) rfl ?_
                      refine jd_pV (As := [.int (nI ((gOne κ1 o)))]) (rest := []) (ct_X8_has ((w_mgate hw2) k (show k < nG κ1 by omega)) (nI ((gOne κ1 o)))) (jd_rv ((w_mgate hw2) k (show k < nG κ1 by omega)) 11 rfl rfl) rfl q1692 q1693 q1694 q104 q1695 nX8_has dX4_begin_201 rfl rfl rfl (Nat.le_of_ble_eq_true rfl) ⟨(Nat.le_of_ble_eq_true rfl), (Nat.le_of_ble_eq_true rfl)⟩ ?_
                      refine jd_bif_ne (tgt := 222) dX4_begin_204 (by decide) (fun z37 => ?_) (fun z38 => ?_)
                      · have hbes := (bes_y (hIg k (by omega)).1 (hIg k (by omega)).2.1 (hIg o (by omega)).1 (hIg o (by omega)).2.1).mp (Or.inl z37)
                        refine jd_iconst (v := 0) dX4_begin_222 (by decide) ?_
                        refine jd_istore (ls' := [_, _, _, _, _, _]) dX4_begin_223 (Nat.le_of_ble_eq_true rfl) rfl rfl ?_
                        have lp225_39 : ∀ (j : Nat) (v : Nat) (hv0 : v + j = 97) (hh : jd_H) (hw2 : WM G γ κ1 (mu_m μ (moF κ1 k o v)) hh) (hf2 : ∀ j : jd_Id, (j.1 < 20 ∨ 40 ≤ j.1) → hh j = hh0 j), jd_W G mX4_begin 3 (0) (0) 225 [some (.ref (γ 0 0)), some (.int (nI k)), some (.int (nI o)), some (.ref (γ 2 k)), some (.ref (γ 2 o)), some (.int (nI v))] [] hh (fun (r : Option Value) (h2 : jd_H) => r = none ∧ ∃ μ2 : ll_U, WM G γ (k_go κ) μ2 h2 ∧ μ2.1 0 0 = μ.1 0 0 ∧ ∀ j : jd_Id, (j.1 < 20 ∨ 40 ≤ j.1) → h2 j = h j) jd_no := by
                          intro j
                          induction j with
                          | zero =>
                            intro v hv0 hh hw2 hf2
                            obtain rfl : v = 97 := by omega
                            refine jd_iload dX4_begin_225 rfl ?_
                            refine jd_bipush (v := 97) dX4_begin_227 (by decide) ?_
                            refine jd_ncmp_ge (a := 97) (b := 97) (tgt := 262) dX4_begin_229 (by decide) (by omega) (by omega) (fun z40 => ?_) (fun z41 => ?_)
                            · refine jd_iincN (n := 1) (ls' := [_, _, _, _, _, _]) dX4_begin_262 rfl (Nat.le_of_ble_eq_true rfl) rfl rfl ?_
                              refine jd_goto (tgt := 159) dX4_begin_265 (by decide) ?_
                              have hw3 : WM G γ κ1 (mu_m μ (moF κ1 k (o + 1) 0)) hh := by rw [← moF_o hbes]; exact hw2
                              refine jd_lsub [some (.ref (γ 0 0)), some (.int (nI k)), some (.int (nI (o + 1))), none, none, none] ⟨rfl, rfl, rfl, trivial⟩ ?_
                              exact ih159 (o + 1) (by omega) hh hw3 (fun j hj => (hf2 j hj))
                            · omega
                          | succ j ih225 =>
                            intro v hv0 hh hw2 hf2
                            refine jd_iload dX4_begin_225 rfl ?_
                            refine jd_bipush (v := 97) dX4_begin_227 (by decide) ?_
                            refine jd_ncmp_ge (a := v) (b := 97) (tgt := 262) dX4_begin_229 (by decide) (by omega) (by omega) (fun z42 => ?_) (fun z43 => ?_)
                            · omega
                            · refine jd_aload dX4_begin_232 rfl ?_
                              refine jd_getN in_X8 ((w_mgate hw2) o (show o < nG κ1 by omega)) 7 q1557 dX4_begin_234 rfl (Nat.le_of_ble_eq_true rfl) rfl ?_
                              refine jd_iload dX4_begin_237 rfl ?_
                              refine jd_zald ((w_mrev hw2) o (show o < nG κ1 by omega)) dX4_begin_239 (vp_in_nI (by omega) (by omega)) ?_
                              refine jd_top (w := .int (jd_b (gRev κ1 o v = true))) (by rw [nI_clamp (by omega)]) ?_
                              refine jd_bif_eq (tgt := 256) dX4_begin_240 (by decide) (fun z44 => ?_) (fun z45 => ?_)
                              · refine jd_iincN (n := 1) (ls' := [_, _, _, _, _, _]) dX4_begin_256 rfl (Nat.le_of_ble_eq_true rfl) rfl rfl ?_
                                refine jd_goto (tgt := 225) dX4_begin_259 (by decide) ?_
                                have hw3 : WM G γ κ1 (mu_m μ (moF κ1 k o (v + 1))) hh := by rw [← moF_f z44]; exact hw2
                                refine jd_lsub [some (.ref (γ 0 0)), some (.int (nI k)), some (.int (nI o)), some (.ref (γ 2 k)), some (.ref (γ 2 o)), some (.int (nI (v + 1)))] ⟨rfl, rfl, rfl, rfl, rfl, rfl, trivial⟩ ?_
                                exact ih225 (v + 1) (by omega) hh hw3 (fun j hj => (hf2 j hj))
                              · refine jd_aload_n dX4_begin_243 rfl ?_
                                refine jd_get in_X4 (w_mthis hw2) 11 q1477 dX4_begin_244 rfl (Nat.le_of_ble_eq_true rfl) rfl ?_
                                refine jd_iload_n dX4_begin_247 rfl ?_
                                refine jd_bipush (v := 97) dX4_begin_248 (by decide) ?_
                                refine jd_imulN (a := k) (b := 97) dX4_begin_250 ?_
                                refine jd_iload dX4_begin_251 rfl ?_
                                refine jd_iaddN (a := (k * 97)) (b := v) dX4_begin_253 ?_
                                refine jd_iconst (v := 1) dX4_begin_254 (by decide) ?_
                                refine jd_zast (w_mmore hw2) dX4_begin_255 (vp_in_nI (by omega) (by omega)) (Or.inr rfl) ?_
                                refine jd_updG (fun h46 hs46 ho46 => ?_)
                                have hw46 : WM G γ κ1 (mu_m μ (moF κ1 k o (v + 1))) h46 := by
                                  have w := m_more hw2 (F := moF κ1 k o (v + 1)) (by rw [← moF_y (g := k) (o := o) (show v < 97 by omega) z45]; rw [nI_clamp (by omega)] at hs46; exact hs46) ho46
                                  rw [mu_mm] at w; exact w
                                refine jd_iincN (n := 1) (ls' := [_, _, _, _, _, _]) dX4_begin_256 rfl (Nat.le_of_ble_eq_true rfl) rfl rfl ?_
                                refine jd_goto (tgt := 225) dX4_begin_259 (by decide) ?_
                                have hw3 := hw46
                                refine jd_lsub [some (.ref (γ 0 0)), some (.int (nI k)), some (.int (nI o)), some (.ref (γ 2 k)), some (.ref (γ 2 o)), some (.int (nI (v + 1)))] ⟨rfl, rfl, rfl, rfl, rfl, rfl, trivial⟩ ?_
                                exact ih225 (v + 1) (by omega) h46 hw3 (fun j hj => ((ho46 j (ll_nel (by decide) hj)).trans (hf2 j hj)))
                        refine jd_lsub [some (.ref (γ 0 0)), some (.int (nI k)), some (.int (nI o)), some (.ref (γ 2 k)), some (.ref (γ 2 o)), some (.int (nI 0))] ⟨rfl, rfl, rfl, rfl, rfl, rfl, trivial⟩ ?_
                        exact lp225_39 (97) 0 (by omega) hh hw2 (fun j hj => (hf2 j hj))
                      · have h204 := z38
                        refine jd_aload_n dX4_begin_207 rfl ?_
                        refine jd_aload dX4_begin_208 rfl ?_
                        refine jd_getN in_X8 ((w_mgate hw2) o (show o < nG κ1 by omega)) 1 q1545 dX4_begin_210 rfl (Nat.le_of_ble_eq_true rfl) rfl ?_
                        refine jd_pV (As := [.int (nI ((gOther κ1 o)))]) (rest := []) (ct_X8_has ((w_mgate hw2) k (show k < nG κ1 by omega)) (nI ((gOther κ1 o)))) (jd_rv ((w_mgate hw2) k (show k < nG κ1 by omega)) 11 rfl rfl) rfl q1692 q1693 q1694 q104 q1695 nX8_has dX4_begin_213 rfl rfl rfl (Nat.le_of_ble_eq_true rfl) ⟨(Nat.le_of_ble_eq_true rfl), (Nat.le_of_ble_eq_true rfl)⟩ ?_
                        refine jd_bif_ne (tgt := 222) dX4_begin_216 (by decide) (fun z47 => ?_) (fun z48 => ?_)
                        · have hbes := (bes_y (hIg k (by omega)).1 (hIg k (by omega)).2.1 (hIg o (by omega)).1 (hIg o (by omega)).2.1).mp (Or.inr z47)
                          refine jd_iconst (v := 0) dX4_begin_222 (by decide) ?_
                          refine jd_istore (ls' := [_, _, _, _, _, _]) dX4_begin_223 (Nat.le_of_ble_eq_true rfl) rfl rfl ?_
                          have lp225_49 : ∀ (j : Nat) (v : Nat) (hv0 : v + j = 97) (hh : jd_H) (hw2 : WM G γ κ1 (mu_m μ (moF κ1 k o v)) hh) (hf2 : ∀ j : jd_Id, (j.1 < 20 ∨ 40 ≤ j.1) → hh j = hh0 j), jd_W G mX4_begin 3 (0) (0) 225 [some (.ref (γ 0 0)), some (.int (nI k)), some (.int (nI o)), some (.ref (γ 2 k)), some (.ref (γ 2 o)), some (.int (nI v))] [] hh (fun (r : Option Value) (h2 : jd_H) => r = none ∧ ∃ μ2 : ll_U, WM G γ (k_go κ) μ2 h2 ∧ μ2.1 0 0 = μ.1 0 0 ∧ ∀ j : jd_Id, (j.1 < 20 ∨ 40 ≤ j.1) → h2 j = h j) jd_no := by
                            intro j
                            induction j with
                            | zero =>
                              intro v hv0 hh hw2 hf2
                              obtain rfl : v = 97 := by omega
                              refine jd_iload dX4_begin_225 rfl ?_
                              refine jd_bipush (v := 97) dX4_begin_227 (by decide) ?_
                              refine jd_ncmp_ge (a := 97) (b := 97) (tgt := 262) dX4_begin_229 (by decide) (by omega) (by omega) (fun z50 => ?_) (fun z51 => ?_)
                              · refine jd_iincN (n := 1) (ls' := [_, _, _, _, _, _]) dX4_begin_262 rfl (Nat.le_of_ble_eq_true rfl) rfl rfl ?_
                                refine jd_goto (tgt := 159) dX4_begin_265 (by decide) ?_
                                have hw3 : WM G γ κ1 (mu_m μ (moF κ1 k (o + 1) 0)) hh := by rw [← moF_o hbes]; exact hw2
                                refine jd_lsub [some (.ref (γ 0 0)), some (.int (nI k)), some (.int (nI (o + 1))), none, none, none] ⟨rfl, rfl, rfl, trivial⟩ ?_
                                exact ih159 (o + 1) (by omega) hh hw3 (fun j hj => (hf2 j hj))
                              · omega
                            | succ j ih225 =>
                              intro v hv0 hh hw2 hf2
                              refine jd_iload dX4_begin_225 rfl ?_
                              refine jd_bipush (v := 97) dX4_begin_227 (by decide) ?_
                              refine jd_ncmp_ge (a := v) (b := 97) (tgt := 262) dX4_begin_229 (by decide) (by omega) (by omega) (fun z52 => ?_) (fun z53 => ?_)
                              · omega
                              · refine jd_aload dX4_begin_232 rfl ?_
                                refine jd_getN in_X8 ((w_mgate hw2) o (show o < nG κ1 by omega)) 7 q1557 dX4_begin_234 rfl (Nat.le_of_ble_eq_true rfl) rfl ?_
                                refine jd_iload dX4_begin_237 rfl ?_
                                refine jd_zald ((w_mrev hw2) o (show o < nG κ1 by omega)) dX4_begin_239 (vp_in_nI (by omega) (by omega)) ?_
                                refine jd_top (w := .int (jd_b (gRev κ1 o v = true))) (by rw [nI_clamp (by omega)]) ?_
                                refine jd_bif_eq (tgt := 256) dX4_begin_240 (by decide) (fun z54 => ?_) (fun z55 => ?_)
                                · refine jd_iincN (n := 1) (ls' := [_, _, _, _, _, _]) dX4_begin_256 rfl (Nat.le_of_ble_eq_true rfl) rfl rfl ?_
                                  refine jd_goto (tgt := 225) dX4_begin_259 (by decide) ?_
                                  have hw3 : WM G γ κ1 (mu_m μ (moF κ1 k o (v + 1))) hh := by rw [← moF_f z54]; exact hw2
                                  refine jd_lsub [some (.ref (γ 0 0)), some (.int (nI k)), some (.int (nI o)), some (.ref (γ 2 k)), some (.ref (γ 2 o)), some (.int (nI (v + 1)))] ⟨rfl, rfl, rfl, rfl, rfl, rfl, trivial⟩ ?_
                                  exact ih225 (v + 1) (by omega) hh hw3 (fun j hj => (hf2 j hj))
                                · refine jd_aload_n dX4_begin_243 rfl ?_
                                  refine jd_get in_X4 (w_mthis hw2) 11 q1477 dX4_begin_244 rfl (Nat.le_of_ble_eq_true rfl) rfl ?_
                                  refine jd_iload_n dX4_begin_247 rfl ?_
                                  refine jd_bipush (v := 97) dX4_begin_248 (by decide) ?_
                                  refine jd_imulN (a := k) (b := 97) dX4_begin_250 ?_
                                  refine jd_iload dX4_begin_251 rfl ?_
                                  refine jd_iaddN (a := (k * 97)) (b := v) dX4_begin_253 ?_
                                  refine jd_iconst (v := 1) dX4_begin_254 (by decide) ?_
                                  refine jd_zast (w_mmore hw2) dX4_begin_255 (vp_in_nI (by omega) (by omega)) (Or.inr rfl) ?_
                                  refine jd_updG (fun h56 hs56 ho56 => ?_)
                                  have hw56 : WM G γ κ1 (mu_m μ (moF κ1 k o (v + 1))) h56 := by
                                    have w := m_more hw2 (F := moF κ1 k o (v + 1)) (by rw [← moF_y (g := k) (o := o) (show v < 97 by omega) z55]; rw [nI_clamp (by omega)] at hs56; exact hs56) ho56
                                    rw [mu_mm] at w; exact w
                                  refine jd_iincN (n := 1) (ls' := [_, _, _, _, _, _]) dX4_begin_256 rfl (Nat.le_of_ble_eq_true rfl) rfl rfl ?_
                                  refine jd_goto (tgt := 225) dX4_begin_259 (by decide) ?_
                                  have hw3 := hw56
                                  refine jd_lsub [some (.ref (γ 0 0)), some (.int (nI k)), some (.int (nI o)), some (.ref (γ 2 k)), some (.ref (γ 2 o)), some (.int (nI (v + 1)))] ⟨rfl, rfl, rfl, rfl, rfl, rfl, trivial⟩ ?_
                                  exact ih225 (v + 1) (by omega) h56 hw3 (fun j hj => ((ho56 j (ll_nel (by decide) hj)).trans (hf2 j hj)))
                          refine jd_lsub [some (.ref (γ 0 0)), some (.int (nI k)), some (.int (nI o)), some (.ref (γ 2 k)), some (.ref (γ 2 o)), some (.int (nI 0))] ⟨rfl, rfl, rfl, rfl, rfl, rfl, trivial⟩ ?_
                          exact lp225_49 (97) 0 (by omega) hh hw2 (fun j hj => (hf2 j hj))
                        · have hbes := fun w => ((bes_y (hIg k (by omega)).1 (hIg k (by omega)).2.1 (hIg o (by omega)).1 (hIg o (by omega)).2.1).mpr w).elim h204 z48
                          refine jd_goto (tgt := 262) dX4_begin_219 (by decide) ?_
                          refine jd_iincN (n := 1) (ls' := [_, _, _, _, _, _]) dX4_begin_262 rfl (Nat.le_of_ble_eq_true rfl) rfl rfl ?_
                          refine jd_goto (tgt := 159) dX4_begin_265 (by decide) ?_
                          have hw3 : WM G γ κ1 (mu_m μ (moF κ1 k (o + 1) 0)) hh := by rw [← moF_n hbes]; exact hw2
                          refine jd_lsub [some (.ref (γ 0 0)), some (.int (nI k)), some (.int (nI (o + 1))), none, none, none] ⟨rfl, rfl, rfl, trivial⟩ ?_
                          exact ih159 (o + 1) (by omega) hh hw3 (fun j hj => (hf2 j hj))
                refine jd_lsub [some (.ref (γ 0 0)), some (.int (nI k)), some (.int (nI 0)), none, none, none] ⟨rfl, rfl, rfl, trivial⟩ ?_
                exact lp159_30 (nG κ1) 0 (by omega) hh hw2 (fun j hj => (hf2 j hj))
          refine jd_lsub [some (.ref (γ 0 0)), some (.int (nI 0)), none, none, none, none] ⟨rfl, rfl, trivial⟩ ?_
          exact lp146_4 (nG κ1) 0 (by omega) h9 hw9 (fun j hj => ((ho9 j (ll_nel (by decide) hj)).trans (hf2 j hj)))
        · omega
      | succ j ih122 =>
        intro x hx0 hh hw2 hf2
        refine jd_iload_n dX4_begin_122 rfl ?_
        refine jd_aload_n dX4_begin_123 rfl ?_
        refine jd_get in_X4 (w_mthis hw2) 11 q1477 dX4_begin_124 rfl (Nat.le_of_ble_eq_true rfl) rfl ?_
        refine jd_alen (w_mmore hw2) dX4_begin_127 1 rfl ?_
        refine jd_ncmp_ge (a := x) (b := 776) (tgt := 144) dX4_begin_128 (by decide) (by omega) (by omega) (fun z57 => ?_) (fun z58 => ?_)
        · omega
        · refine jd_aload_n dX4_begin_131 rfl ?_
          refine jd_get in_X4 (w_mthis hw2) 11 q1477 dX4_begin_132 rfl (Nat.le_of_ble_eq_true rfl) rfl ?_
          refine jd_iload_n dX4_begin_135 rfl ?_
          refine jd_iconst (v := 0) dX4_begin_136 (by decide) ?_
          refine jd_zast (w_mmore hw2) dX4_begin_137 (vp_in_nI (by omega) (by omega)) (Or.inl rfl) ?_
          refine jd_updG (fun h59 hs59 ho59 => ?_)
          have hw59 : WM G γ κ1 (mu_m μ (clF (μ.1 1) (x + 1))) h59 := by
            have w := m_more hw2 (F := clF (μ.1 1) (x + 1)) (by rw [← clF_s]; rw [nI_clamp (by omega)] at hs59; exact hs59) ho59
            rw [mu_mm] at w; exact w
          refine jd_iincN (n := 1) (ls' := [_, _, _, _, _, _]) dX4_begin_138 rfl (Nat.le_of_ble_eq_true rfl) rfl rfl ?_
          refine jd_goto (tgt := 122) dX4_begin_141 (by decide) ?_
          have hw3 := hw59
          refine jd_lsub [some (.ref (γ 0 0)), some (.int (nI (x + 1))), none, none, none, none] ⟨rfl, rfl, trivial⟩ ?_
          exact ih122 (x + 1) (by omega) h59 hw3 (fun j hj => ((ho59 j (ll_nel (by decide) hj)).trans (hf2 j hj)))
    refine jd_lsub [some (.ref (γ 0 0)), some (.int (nI 0)), none, none, none, none] ⟨rfl, rfl, trivial⟩ ?_
    exact lp122_1 (776) 0 (by omega) hh0 (by rw [clF_0, mu_m_id]; exact hw1) (fun j hj => rfl)
  refine jd_aload_n dX4_begin_0 rfl ?_
  refine jd_dup dX4_begin_1 rfl ?_
  refine jd_get in_X4 (w_mthis hw) 2 q1468 dX4_begin_2 rfl (Nat.le_of_ble_eq_true rfl) rfl ?_
  refine jd_iconst (v := 1) dX4_begin_5 (by decide) ?_
  refine jd_iaddN (a := (nHour κ)) (b := 1) dX4_begin_6 ?_
  refine jd_put (fs' := [_, _, _, _, _, _, _, _, _, _, _, _, _]) in_X4 tyX4_ok nmX4 (w_mthis hw) 2 q1468 dX4_begin_7 rfl (Nat.le_of_ble_eq_true rfl) rfl rfl rfl (Nat.le_of_ble_eq_true rfl) rfl ?_
  refine jd_updG (fun h60 hs60 ho60 => ?_)
  have hw60 := m_nHour hw (v := ((nHour κ) + 1)) hs60 ho60
  refine jd_aload_n dX4_begin_10 rfl ?_
  refine jd_get in_X4 (w_mthis hw60) 2 q1468 dX4_begin_11 rfl (Nat.le_of_ble_eq_true rfl) rfl ?_
  refine jd_top (w := .int (nI (nHour κ + 1))) rfl ?_
  refine jd_bipush (v := 24) dX4_begin_14 (by decide) ?_
  refine jd_ncmp_ne (a := nHour κ + 1) (b := 24) (tgt := 120) dX4_begin_16 (by decide) (by omega) (by omega) (fun z61 => ?_) (fun z62 => ?_)
  · have he24 : ¬ nHour κ + 1 = 24 := z61
    have hwE : WM G γ (k_go1 κ) μ h60 := by rw [k_go_n he24]; exact hw60
    refine jd_lsub [some (.ref (γ 0 0)), none, none, none, none, none] ⟨rfl, trivial⟩ ?_
    refine jd_wk (cb' := 0) (sb' := 0) ?_ (by omega) (by omega)
    exact w120 (k_go1 κ) h60 hwE (I_go1 hI h99) (fun μ2 h2 a b c => ⟨rfl, μ2, by rw [k_go, ← go1_c.1]; exact a, b, fun j hj => (c j hj).trans ((fun j hj => (ho60 j (ll_nel (by decide) hj))) j hj)⟩)
  · have he24 : nHour κ + 1 = 24 := z62
    have hd99 := h99 he24
    have hID : ll_I (k_dn1 (k_dn0 (k_hr κ)) 6) := I_dn hI hd99
    refine jd_aload_n dX4_begin_19 rfl ?_
    refine jd_iconst (v := 0) dX4_begin_20 (by decide) ?_
    refine jd_put (fs' := [_, _, _, _, _, _, _, _, _, _, _, _, _]) in_X4 tyX4_ok nmX4 (w_mthis hw60) 2 q1468 dX4_begin_21 rfl (Nat.le_of_ble_eq_true rfl) rfl rfl rfl (Nat.le_of_ble_eq_true rfl) rfl ?_
    refine jd_updG (fun h63 hs63 ho63 => ?_)
    have hw63 := m_nHour hw60 (v := 0) hs63 ho63
    refine jd_aload_n dX4_begin_24 rfl ?_
    refine jd_dup dX4_begin_25 rfl ?_
    refine jd_get in_X4 (w_mthis hw63) 1 q1467 dX4_begin_26 rfl (Nat.le_of_ble_eq_true rfl) rfl ?_
    refine jd_iconst (v := 1) dX4_begin_29 (by decide) ?_
    refine jd_iaddN (a := (nNight (ll_sn (ll_sn κ 9 4 (((nHour κ) + 1))) 9 4 0))) (b := 1) dX4_begin_30 ?_
    refine jd_put (fs' := [_, _, _, _, _, _, _, _, _, _, _, _, _]) in_X4 tyX4_ok nmX4 (w_mthis hw63) 1 q1467 dX4_begin_31 rfl (Nat.le_of_ble_eq_true rfl) rfl rfl rfl (Nat.le_of_ble_eq_true rfl) rfl ?_
    refine jd_updG (fun h64 hs64 ho64 => ?_)
    have hw64 := m_nNight hw63 (v := ((nNight (ll_sn (ll_sn κ 9 4 (((nHour κ) + 1))) 9 4 0)) + 1)) hs64 ho64
    refine jd_aload_n dX4_begin_34 rfl ?_
    refine jd_get in_X4 (w_mthis hw64) 6 q1472 dX4_begin_35 rfl (Nat.le_of_ble_eq_true rfl) rfl ?_
    refine jd_astore_n (ls' := [_, _, _, _, _, _]) dX4_begin_38 (Nat.le_of_ble_eq_true rfl) rfl rfl ?_
    refine jd_aload_n dX4_begin_39 rfl ?_
    refine jd_alen (w_mlands hw64) dX4_begin_40 5 rfl ?_
    refine jd_istore_n (ls' := [_, _, _, _, _, _]) dX4_begin_41 (Nat.le_of_ble_eq_true rfl) rfl rfl ?_
    refine jd_iconst (v := 0) dX4_begin_42 (by decide) ?_
    refine jd_istore_n (ls' := [_, _, _, _, _, _]) dX4_begin_43 (Nat.le_of_ble_eq_true rfl) rfl rfl ?_
    have lp44_65 : ∀ (j : Nat) (k : Nat) (hk0 : k + j = 6) (hh : jd_H) (hw2 : WM G γ (k_dn1 (k_dn0 (k_hr κ)) k) μ hh) (hf2 : ∀ j : jd_Id, (j.1 < 20 ∨ 40 ≤ j.1) → hh j = h j), jd_W G mX4_begin 3 (1) (4) 44 [some (.ref (γ 0 0)), some (.ref (γ 0 1)), some (.int (nI 6)), some (.int (nI k)), none, none] [] hh (fun (r : Option Value) (h2 : jd_H) => r = none ∧ ∃ μ2 : ll_U, WM G γ (k_go κ) μ2 h2 ∧ μ2.1 0 0 = μ.1 0 0 ∧ ∀ j : jd_Id, (j.1 < 20 ∨ 40 ≤ j.1) → h2 j = h j) jd_no := by
      intro j
      induction j with
      | zero =>
        intro k hk0 hh hw2 hf2
        obtain rfl : k = 6 := by omega
        refine jd_iload_n dX4_begin_44 rfl ?_
        refine jd_iload_n dX4_begin_45 rfl ?_
        refine jd_ncmp_ge (a := 6) (b := 6) (tgt := 66) dX4_begin_46 (by decide) (by omega) (by omega) (fun z66 => ?_) (fun z67 => ?_)
        · refine jd_aload_n dX4_begin_66 rfl ?_
          refine jd_get in_X4 (w_mthis hw2) 8 q1474 dX4_begin_67 rfl (Nat.le_of_ble_eq_true rfl) rfl ?_
          obtain ⟨mcl68, hl68_⟩ := w_msleepers hw2
          obtain ⟨mcI, hlI⟩ := w_msleepers hw2
          refine jd_callV (As := []) (rest := []) (ct_J2_iterator hlI (show nS κ ≤ 900 by omega)) (jd_rv hl68_ 15 rfl rfl) rfl q1814 q1815 q1816 q83 q1817 nJ2_iterator dX4_begin_70 rfl rfl rfl (Nat.le_of_ble_eq_true rfl) ⟨(Nat.le_of_ble_eq_true rfl), (Nat.le_of_ble_eq_true rfl), by omega, by omega⟩ (fun rv68 hn68 hq68 => ?_) jd_nox
          obtain ⟨q, hq, rfl, he68⟩ := hq68
          rw [he68]
          refine jd_heq (h' := (jd_up hh (0, q) (q, .inl (.inr (16, [.int (nI 0), .int (itL 0), .int (mcI), .ref (γ 0 3)]))))) rfl ?_
          refine jd_astore_n (ls' := [_, _, _, _, _, _]) dX4_begin_73 (Nat.le_of_ble_eq_true rfl) rfl rfl ?_
          have lp74_70 : ∀ (j : Nat) (k : Nat) (hk0 : k + j = nS κ) (hx : jd_H) (hqx : hx (0, q) = none) (hw2 : WM G γ (k_dn2 (k_dn1 (k_dn0 (k_hr κ)) 6) k) μ hx) (hls : hx (22, 2) = some (γ 0 3, .inr (mcI, nS κ, γ 5))) (hf2 : ∀ j : jd_Id, (j.1 < 20 ∨ 40 ≤ j.1) → hx j = h j), jd_W G mX4_begin 3 (1 - 1) (4 - 4) 74 [some (.ref (γ 0 0)), some (.ref (q)), none, some (.int (nI 6)), none, none] [] (jd_up hx (0, q) (q, .inl (.inr (16, [.int (nI k), .int (itL k), .int (mcI), .ref (γ 0 3)])))) (fun (r : Option Value) (h2 : jd_H) => r = none ∧ ∃ μ2 : ll_U, WM G γ (k_go κ) μ2 h2 ∧ μ2.1 0 0 = μ.1 0 0 ∧ ∀ j : jd_Id, (j.1 < 20 ∨ 40 ≤ j.1) → h2 j = h j) jd_no := by
            intro j
            induction j with
            | zero =>
              intro k hk0 hx hqx hw2 hls hf2
              obtain rfl : k = nS κ := by omega
              refine jd_aload_n dX4_begin_74 rfl ?_
              refine jd_pF (n := 0) (As := []) (rest := []) (ct_J24_hasNext (jd_tmp hls) (show nS κ ≤ 900 by omega) (c := nS κ) jd_up_s (show nS κ ≤ nS κ by omega)) (jd_rv jd_up_s 16 rfl rfl) (ci := 16) rfl (List.mem_of_getElem? (i := 5) rfl) rfl q1838 q1842 q1844 q122 q1846 q1840 q1845 q1843 q1841 ⟨by decide, by decide, by decide +kernel⟩ dX4_begin_75 rfl rfl (Nat.le_of_ble_eq_true rfl) ⟨(Nat.le_of_ble_eq_true rfl), (Nat.le_of_ble_eq_true rfl)⟩ ?_
              refine jd_bif_eq (tgt := 120) dX4_begin_80 (by decide) (fun z71 => ?_) (fun z72 => ?_)
              · refine jd_drop (h' := hx) (jd_tmp_keep hqx) ?_
                have hwE : WM G γ (k_go1 κ) μ hx := by rw [k_go_y he24]; exact hw2
                refine jd_lsub [some (.ref (γ 0 0)), none, none, none, none, none] ⟨rfl, trivial⟩ ?_
                refine jd_wk (cb' := 0) (sb' := 0) ?_ (by omega) (by omega)
                exact w120 (k_go1 κ) hx hwE (I_go1 hI h99) (fun μ2 h2 a b c => ⟨rfl, μ2, by rw [k_go, ← go1_c.1]; exact a, b, fun j hj => (c j hj).trans ((fun j hj => (hf2 j hj)) j hj)⟩)
              · omega
            | succ j ih74 =>
              intro k hk0 hx hqx hw2 hls hf2
              refine jd_aload_n dX4_begin_74 rfl ?_
              refine jd_pF (n := 0) (As := []) (rest := []) (ct_J24_hasNext (jd_tmp hls) (show nS κ ≤ 900 by omega) (c := k) jd_up_s (show k ≤ nS κ by omega)) (jd_rv jd_up_s 16 rfl rfl) (ci := 16) rfl (List.mem_of_getElem? (i := 5) rfl) rfl q1838 q1842 q1844 q122 q1846 q1840 q1845 q1843 q1841 ⟨by decide, by decide, by decide +kernel⟩ dX4_begin_75 rfl rfl (Nat.le_of_ble_eq_true rfl) ⟨(Nat.le_of_ble_eq_true rfl), (Nat.le_of_ble_eq_true rfl)⟩ ?_
              refine jd_bif_eq (tgt := 120) dX4_begin_80 (by decide) (fun z73 => ?_) (fun z74 => ?_)
              · omega
              · refine jd_aload_n dX4_begin_83 rfl ?_
                refine jd_callF (n := 0) (As := []) (rest := []) (ct_J24_next (jd_tmp hls) (show nS κ ≤ 900 by omega) (c := k) jd_up_s (show k < nS κ by omega)) (jd_rv jd_up_s 16 rfl rfl) (ci := 16) rfl (List.mem_of_getElem? (i := 6) rfl) rfl q1848 q1851 q1853 q122 q1855 q1850 q1854 q1852 q1841 ⟨by decide, by decide, by decide +kernel⟩ dX4_begin_84 rfl rfl (Nat.le_of_ble_eq_true rfl) ⟨(Nat.le_of_ble_eq_true rfl), (Nat.le_of_ble_eq_true rfl), by omega, by omega⟩ (fun rv74 hn74 hq74 => ?_) jd_nox
                obtain ⟨rfl, he74⟩ := hq74
                rw [he74, jd_up_up]
                refine jd_castS (jd_rv (jd_tmp ((w_msleeper hw2) k (show k < nS κ by omega))) 12 rfl rfl) (ci := 12) rfl q1593 dX4_begin_89 ?_
                refine jd_astore_n (ls' := [_, _, _, _, _, _]) dX4_begin_92 (Nat.le_of_ble_eq_true rfl) rfl rfl ?_
                refine jd_aload_n dX4_begin_93 rfl ?_
                refine jd_getN in_X10 (jd_tmp ((w_msleeper hw2) k (show k < nS κ by omega))) 8 q1610 dX4_begin_94 rfl (Nat.le_of_ble_eq_true rfl) rfl ?_
                refine jd_iconst (v := (-1)) dX4_begin_97 (by decide) ?_
                refine jd_icmp_eq (tgt := 117) dX4_begin_98 (by decide) (fun z76 => ?_) (fun z77 => ?_)
                · have hnoP := (oV_m1 (fun q hq => ((hID.2.2.1 k (show k < nS κ by omega)).2.2.2.2.2.2.2.2.1 q (dn2_sp hq)).2.2)).mp z76
                  refine jd_goto (tgt := 74) dX4_begin_117 (by decide) ?_
                  have hw3 : WM G γ (k_dn2 (k_dn1 (k_dn0 (k_hr κ)) 6) (k + 1)) μ hx := by rw [← dn2_no hnoP]; exact hw2
                  refine jd_heq (h' := (jd_up hx (0, q) (q, .inl (.inr (16, [.int (nI (k + 1)), .int (itL (k + 1)), .int (mcI), .ref (γ 0 3)]))))) rfl ?_
                  refine jd_lsub [some (.ref (γ 0 0)), some (.ref (q)), none, some (.int (nI 6)), none, none] ⟨rfl, rfl, rfl, trivial⟩ ?_
                  exact ih74 (k + 1) (by omega) hx hqx hw3 hls hf2
                · obtain ⟨qp, hqp⟩ := Option.ne_none_iff_exists'.mp (fun w => z77 ((oV_m1 (fun q hq => ((hID.2.2.1 k (show k < nS κ by omega)).2.2.2.2.2.2.2.2.1 q (dn2_sp hq)).2.2)).mpr w))
                  have hqb := (hID.2.2.1 k (show k < nS κ by omega)).2.2.2.2.2.2.2.2.1 qp (dn2_sp hqp)
                  refine jd_aload_n dX4_begin_101 rfl ?_
                  refine jd_getN in_X10 (jd_tmp ((w_msleeper hw2) k (show k < nS κ by omega))) 7 q1608 dX4_begin_102 rfl (Nat.le_of_ble_eq_true rfl) rfl ?_
                  refine jd_top (w := .int (nI qp.2.1)) (congrArg Value.int (w_mpass hw2 k (show k < nS κ by omega) qp hqp).2) ?_
                  refine jd_aload_n dX4_begin_105 rfl ?_
                  refine jd_get in_X4 (jd_tmp (w_mthis hw2)) 1 q1467 dX4_begin_106 rfl (Nat.le_of_ble_eq_true rfl) rfl ?_
                  have hnn : nNight (k_dn2 (k_dn1 (k_dn0 (k_hr κ)) 6) k) = nNight κ + 1 := rfl
                  refine jd_top (w := .int (nI (nNight κ + 1))) rfl ?_
                  refine jd_ncmp_ge (a := qp.2.1) (b := nNight κ + 1) (tgt := 117) dX4_begin_109 (by decide) (by omega) (by omega) (fun z78 => ?_) (fun z79 => ?_)
                  · refine jd_goto (tgt := 74) dX4_begin_117 (by decide) ?_
                    have hw3 : WM G γ (k_dn2 (k_dn1 (k_dn0 (k_hr κ)) 6) (k + 1)) μ hx := by rw [← dn2_nn hqp z78]; exact hw2
                    refine jd_heq (h' := (jd_up hx (0, q) (q, .inl (.inr (16, [.int (nI (k + 1)), .int (itL (k + 1)), .int (mcI), .ref (γ 0 3)]))))) rfl ?_
                    refine jd_lsub [some (.ref (γ 0 0)), some (.ref (q)), none, some (.int (nI 6)), none, none] ⟨rfl, rfl, rfl, trivial⟩ ?_
                    exact ih74 (k + 1) (by omega) hx hqx hw3 hls hf2
                  · have hlt : qp.2.1 < nNight κ + 1 := Nat.lt_of_not_le (Nat.not_le.mpr z79)
                    refine jd_aload_n dX4_begin_112 rfl ?_
                    refine jd_iconst (v := (-1)) dX4_begin_113 (by decide) ?_
                    refine jd_putN (fs' := [_, _, _, _, _, _, _, _, _]) in_X10 tyX10_ok nmX10 (jd_tmp ((w_msleeper hw2) k (show k < nS κ by omega))) 8 q1610 dX4_begin_114 rfl (Nat.le_of_ble_eq_true rfl) rfl rfl rfl (Nat.le_of_ble_eq_true rfl) rfl ?_
                    refine jd_updT (fun z => by cases z) (fun h4 hs4 ho4 => ?_)
                    have hw4 := m_verN hw2 (k := k) (show k < nS κ by omega) hs4 ho4
                    rw [dn2_y2 (dn2_sp hqp) hlt] at hw4
                    have hq4 : h4 (0, q) = none := (ho4 _ (fun z => by cases z)).trans hqx
                    have hl4 := (ho4 (22, 2) (fun z => by cases z)).trans hls
                    have hf4 : ∀ j : jd_Id, (j.1 < 20 ∨ 40 ≤ j.1) → h4 j = h j := fun j hj => (ho4 j (ll_nel ⟨by decide, by decide⟩ hj)).trans (hf2 j hj)
                    refine jd_goto (tgt := 74) dX4_begin_117 (by decide) ?_
                    have hw3 := hw4
                    refine jd_heq (h' := (jd_up h4 (0, q) (q, .inl (.inr (16, [.int (nI (k + 1)), .int (itL (k + 1)), .int (mcI), .ref (γ 0 3)]))))) rfl ?_
                    refine jd_lsub [some (.ref (γ 0 0)), some (.ref (q)), none, some (.int (nI 6)), none, none] ⟨rfl, rfl, rfl, trivial⟩ ?_
                    exact ih74 (k + 1) (by omega) h4 hq4 hw3 hl4 hf4
          refine jd_lsub [some (.ref (γ 0 0)), some (.ref (q)), none, some (.int (nI 6)), none, none] ⟨rfl, rfl, rfl, trivial⟩ ?_
          exact lp74_70 (nS κ) 0 (by omega) hh hq (by rw [dn2_0]; exact hw2) hlI (fun j hj => (hf2 j hj))
        · omega
      | succ j ih44 =>
        intro k hk0 hh hw2 hf2
        refine jd_iload_n dX4_begin_44 rfl ?_
        refine jd_iload_n dX4_begin_45 rfl ?_
        refine jd_ncmp_ge (a := k) (b := 6) (tgt := 66) dX4_begin_46 (by decide) (by omega) (by omega) (fun z80 => ?_) (fun z81 => ?_)
        · omega
        · refine jd_aload_n dX4_begin_49 rfl ?_
          refine jd_iload_n dX4_begin_50 rfl ?_
          refine jd_aald (y := γ 1 k) (w_mlands hw2) dX4_begin_51 5 rfl (vp_in_nI (by omega) (by omega)) (by rw [nI_clamp (by omega)]) ?_
          refine jd_astore (ls' := [_, _, _, _, _, _]) dX4_begin_52 (Nat.le_of_ble_eq_true rfl) rfl rfl ?_
          refine jd_aload dX4_begin_54 rfl ?_
          refine jd_iconst (v := 0) dX4_begin_56 (by decide) ?_
          refine jd_putN (fs' := [_, _, _, _, _, _]) in_X5 tyX5_ok nmX5 ((w_mland hw2) k (show k < 6 by omega)) 3 q1450 dX4_begin_57 rfl (Nat.le_of_ble_eq_true rfl) rfl rfl rfl (Nat.le_of_ble_eq_true rfl) rfl ?_
          refine jd_updG (fun h82 hs82 ho82 => ?_)
          have hw82 := m_lNight hw2 (k := k) (show k < 6 by omega) (v := 0) hs82 ho82
          refine jd_iincN (n := 1) (ls' := [_, _, _, _, _, _]) dX4_begin_60 rfl (Nat.le_of_ble_eq_true rfl) rfl rfl ?_
          refine jd_goto (tgt := 44) dX4_begin_63 (by decide) ?_
          have hw3 : WM G γ (k_dn1 (k_dn0 (k_hr κ)) (k + 1)) μ h82 := by rw [← dn1_s]; exact hw82
          refine jd_lsub [some (.ref (γ 0 0)), some (.ref (γ 0 1)), some (.int (nI 6)), some (.int (nI (k + 1))), none, none] ⟨rfl, rfl, rfl, rfl, trivial⟩ ?_
          exact ih44 (k + 1) (by omega) h82 hw3 (fun j hj => ((ho82 j (ll_nel (by decide) hj)).trans (hf2 j hj)))
    refine jd_lsub [some (.ref (γ 0 0)), some (.ref (γ 0 1)), some (.int (nI 6)), some (.int (nI 0)), none, none] ⟨rfl, rfl, rfl, rfl, trivial⟩ ?_
    exact lp44_65 (6) 0 (by omega) h64 (by rw [dn1_0]; exact hw64) (fun j hj => ((ho64 j (ll_nel (by decide) hj)).trans ((ho63 j (ll_nel (by decide) hj)).trans (ho60 j (ll_nel (by decide) hj)))))

set_option maxRecDepth 20000 in
set_option maxHeartbeats 2000000 in
theorem ct_X4_pass {G : jd_G} {γ : ll_B} {κ : ll_K} {μ : ll_U} {h : jd_H} (hw : WM G γ κ μ h) (hI : ll_I κ) (H : Int32) : jd_Ct G mX4_pass 4 (48) (192) [.ref (γ 0 0), .int (H)] h (jd_mo G γ κ h (c_pass κ H) (.int (nI (nHour (k_pass κ H)))) (k_pass κ H)) jd_no := by
  obtain ⟨⟨hG8, hS12, hP24, hH40, hN99, hH24⟩, hIg, hIs, hIp, hIh, hIl, hIq⟩ := id hI
  obtain ⟨mcG, hlG⟩ := w_mgates hw
  obtain ⟨mcS, hlS⟩ := w_msleepers hw
  obtain ⟨mcP, hlP⟩ := w_mparts hw
  obtain ⟨mcH, hlH⟩ := w_mhidings hw
  refine jd_ct (ls := [some (.ref (γ 0 0)), some (.int (H)), none]) rfl rfl (by decide) (Nat.le_of_ble_eq_true rfl) rfl ?_
  refine jd_aload_n dX4_pass_0 rfl ?_
  refine jd_iconst (v := 0) dX4_pass_1 (by decide) ?_
  refine jd_put (fs' := [_, _, _, _, _, _, _, _, _, _, _, _, _]) in_X4 tyX4_ok nmX4 (w_mthis hw) 0 q1466 dX4_pass_2 rfl (Nat.le_of_ble_eq_true rfl) rfl rfl rfl (Nat.le_of_ble_eq_true rfl) rfl ?_
  refine jd_updG (fun h1 hs1 ho1 => ?_)
  have hw1 := m_thrown hw (v := 0) hs1 ho1
  refine jd_iload_n dX4_pass_5 rfl ?_
  refine jd_iconst (v := 1) dX4_pass_6 (by decide) ?_
  refine jd_bipush (v := 48) dX4_pass_7 (by decide) ?_
  refine jd_pS (As := [.int (H), .int (1), .int (48)]) (rest := []) (ct_X4_is (H) (1) (48)) rfl q1518 q1519 q90 q1520 nX4_is dX4_pass_9 rfl rfl (Nat.le_of_ble_eq_true rfl) ⟨(Nat.le_of_ble_eq_true rfl), (Nat.le_of_ble_eq_true rfl)⟩ ?_
  refine jd_bif_ne (tgt := 21) dX4_pass_12 (by decide) (fun z2 => ?_) (fun z3 => ?_)
  · have hcc4 := z2
    obtain ⟨k_H, hk_H, rfl⟩ := inR_ex (lo := 1) (hi := 48) hcc4 (by omega) (by omega)
    have hT_H := tN_nI (show k_H < 2 ^ 31 by omega)
    refine jd_aload_n dX4_pass_21 rfl ?_
    refine jd_get in_X4 (w_mthis hw1) 1 q1467 dX4_pass_22 rfl (Nat.le_of_ble_eq_true rfl) rfl ?_
    refine jd_aload_n dX4_pass_25 rfl ?_
    refine jd_get in_X4 (w_mthis hw1) 2 q1468 dX4_pass_26 rfl (Nat.le_of_ble_eq_true rfl) rfl ?_
    refine jd_iload_n dX4_pass_29 rfl ?_
    refine jd_iaddN (a := (nHour κ)) (b := k_H) dX4_pass_30 ?_
    refine jd_bipush (v := 24) dX4_pass_31 (by decide) ?_
    refine jd_idivN (a := ((nHour κ) + k_H)) (b := 24) dX4_pass_33 (by omega) (by omega) (by omega) ?_
    refine jd_iaddN (a := (nNight κ)) (b := (((nHour κ) + k_H) / 24)) dX4_pass_34 ?_
    refine jd_bipush (v := 99) dX4_pass_35 (by decide) ?_
    refine jd_ncmp_le (a := ((nNight κ) + (((nHour κ) + k_H) / 24))) (b := 99) (tgt := 46) dX4_pass_37 (by decide) (by omega) (by omega) (fun z5 => ?_) (fun z6 => ?_)
    · have hcc7 := (Nat.not_lt.mpr z5)
      have hok := goN_ok (H := k_H) hI (Nat.not_lt.mp hcc7)
      refine jd_iconst (v := 0) dX4_pass_46 (by decide) ?_
      refine jd_istore_n (ls' := [_, _, _]) dX4_pass_47 (Nat.le_of_ble_eq_true rfl) rfl rfl ?_
      have lp48_8 : ∀ (j : Nat) (i : Nat) (hi0 : i + j = k_H) (μ3 : ll_U) (hh : jd_H) (hw2 : WM G γ (k_goN κ i) μ3 hh) (hm3 : μ3.1 0 0 = 0) (hf2 : ∀ j : jd_Id, (j.1 < 20 ∨ 40 ≤ j.1) → hh j = h j), jd_W G mX4_pass 4 (1 * j + 0) (4 * j + 0) 48 [some (.ref (γ 0 0)), some (.int (nI k_H)), some (.int (nI i))] [] hh (jd_mo G γ κ h (c_pass κ (nI k_H)) (.int (nI (nHour (k_pass κ (nI k_H))))) (k_pass κ (nI k_H))) jd_no := by
        intro j
        induction j with
        | zero =>
          intro i hi0 μ3 hh hw2 hm3 hf2
          have hke : i = k_H := by omega
          rw [hke]
          rw [hke] at hw2
          refine jd_iload_n dX4_pass_48 rfl ?_
          refine jd_iload_n dX4_pass_49 rfl ?_
          refine jd_ncmp_ge (a := k_H) (b := k_H) (tgt := 63) dX4_pass_50 (by decide) (by omega) (by omega) (fun z9 => ?_) (fun z10 => ?_)
          · refine jd_aload_n dX4_pass_63 rfl ?_
            refine jd_get in_X4 (w_mthis hw2) 2 q1468 dX4_pass_64 rfl (Nat.le_of_ble_eq_true rfl) rfl ?_
            exact jd_iret dX4_pass_67 rfl (jd_mo.ok (γ' := γ) (μ' := μ3) (by unfold c_pass; (try simp only [hT_H]); rw [if_pos hcc4, if_pos hcc7]) (by rw [k_pass, hT_H]) rfl (by rw [k_pass, hT_H]; exact hw2) hm3 (fun j hj => (hf2 j hj)))
          · omega
        | succ j ih48 =>
          intro i hi0 μ3 hh hw2 hm3 hf2
          refine jd_iload_n dX4_pass_48 rfl ?_
          refine jd_iload_n dX4_pass_49 rfl ?_
          refine jd_ncmp_ge (a := i) (b := k_H) (tgt := 63) dX4_pass_50 (by decide) (by omega) (by omega) (fun z11 => ?_) (fun z12 => ?_)
          · omega
          · refine jd_aload_n dX4_pass_53 rfl ?_
            refine jd_callV (As := []) (rest := []) (ct_X4_begin hw2 (hok i (by omega)).1 ((hok i (by omega)).2 (by omega))) (jd_rv (w_mthis hw2) 9 rfl rfl) rfl q1810 q1812 qs63 q90 q1813 nX4_begin dX4_pass_54 rfl rfl rfl (Nat.le_of_ble_eq_true rfl) ⟨(Nat.le_of_ble_eq_true rfl), (Nat.le_of_ble_eq_true rfl), by omega, by omega⟩ (fun rv12 hn12 hq12 => ?_) jd_nox
            obtain ⟨rfl, μ12, hw12_, hm12, hf12_⟩ := hq12
            refine jd_iincN (n := 1) (ls' := [_, _, _]) dX4_pass_57 rfl (Nat.le_of_ble_eq_true rfl) rfl rfl ?_
            refine jd_goto (tgt := 48) dX4_pass_60 (by decide) ?_
            refine jd_wk (cb' := 1 * (j) + 0) (sb' := 4 * (j) + 0) ?_ (by omega) (by omega)
            refine jd_lsub [some (.ref (γ 0 0)), some (.int (nI k_H)), some (.int (nI (i + 1)))] ⟨rfl, rfl, rfl, trivial⟩ ?_
            exact ih48 (i + 1) (by omega) μ12 hn12 hw12_ (hm12.trans hm3) (fun j hj => ((hf12_ j hj).trans (hf2 j hj)))
      refine jd_wk (cb' := 1 * (k_H) + 0) (sb' := 4 * (k_H) + 0) ?_ (by omega) (by omega)
      refine jd_lsub [some (.ref (γ 0 0)), some (.int (nI k_H)), some (.int (nI 0))] ⟨rfl, rfl, rfl, trivial⟩ ?_
      exact lp48_8 k_H 0 (by omega) (mu_s μ 0 0 0) h1 hw1 rfl (fun j hj => (ho1 j (ll_nel (by decide) hj)))
    · have hcc14 := (not_not_intro (Nat.not_le.mp (Nat.not_le.mpr z6)))
      refine jd_aload_n dX4_pass_40 rfl ?_
      refine jd_iconst (v := 2) dX4_pass_41 (by decide) ?_
      refine jd_callV (As := [.int (2)]) (rest := []) (ct_X4_refuse hw1 (2)) (jd_rv (w_mthis hw1) 9 rfl rfl) rfl q1521 q1523 qs50 q90 q1524 nX4_refuse dX4_pass_42 rfl rfl rfl (Nat.le_of_ble_eq_true rfl) ⟨(Nat.le_of_ble_eq_true rfl), (Nat.le_of_ble_eq_true rfl), by omega, by omega⟩ (fun rv14 hn14 hq14 => ?_) jd_nox
      obtain ⟨rfl, hw14_, hf14_⟩ := hq14
      exact jd_iret dX4_pass_45 rfl (jd_mo.no (γ' := γ) (μ' := (mu_s (mu_s μ 0 0 0) 0 0 2)) (k := 2) (by unfold c_pass; (try simp only [hT_H]); rw [if_pos hcc4, if_neg hcc14]) (by decide) rfl hw14_ rfl (fun j hj => ((hf14_ j hj).trans (ho1 j (ll_nel (by decide) hj)))))
  · have hcc16 := z3
    refine jd_aload_n dX4_pass_15 rfl ?_
    refine jd_iconst (v := 1) dX4_pass_16 (by decide) ?_
    refine jd_callV (As := [.int (1)]) (rest := []) (ct_X4_refuse hw1 (1)) (jd_rv (w_mthis hw1) 9 rfl rfl) rfl q1521 q1523 qs50 q90 q1524 nX4_refuse dX4_pass_17 rfl rfl rfl (Nat.le_of_ble_eq_true rfl) ⟨(Nat.le_of_ble_eq_true rfl), (Nat.le_of_ble_eq_true rfl), by omega, by omega⟩ (fun rv16 hn16 hq16 => ?_) jd_nox
    obtain ⟨rfl, hw16_, hf16_⟩ := hq16
    exact jd_iret dX4_pass_20 rfl (jd_mo.no (γ' := γ) (μ' := (mu_s (mu_s μ 0 0 0) 0 0 1)) (k := 1) (by unfold c_pass; rw [if_neg hcc16]) (by decide) rfl hw16_ rfl (fun j hj => ((hf16_ j hj).trans (ho1 j (ll_nel (by decide) hj)))))
