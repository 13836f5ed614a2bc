/-! the model: sound, the checksum (printed by mk_c.py) -/
set_option maxRecDepth 20000 in
set_option maxHeartbeats 2000000 in
theorem ct_X4_isSoundNow {G : jd_G} {γ : ll_B} {κ : ll_K} {μ : ll_U} {h : jd_H} (hw : WM G γ κ μ h) (hI : ll_I κ)  : jd_Ct G mX4_isSoundNow 4 (2) (16) [.ref (γ 0 0)] h (jd_pu h (.int 1)) jd_no := by
  obtain ⟨⟨hG8, hS12, hP24, hH40, hN99, hH24⟩, hIg, hIs, hIp, hIh, hIl, hIq⟩ := id hI
  obtain ⟨mcG, hlG⟩ := w_mgates hw
  obtain ⟨mcS, hlS⟩ := w_msleepers hw
  obtain ⟨mcP, hlP⟩ := w_mparts hw
  obtain ⟨mcH, hlH⟩ := w_mhidings hw
  refine jd_ct (ls := [some (.ref (γ 0 0)), none, none, none, none, none, none]) rfl rfl (by decide) (Nat.le_of_ble_eq_true rfl) rfl ?_
  refine jd_bipush (v := 12) dX4_isSoundNow_0 (by decide) ?_
  refine jd_newa (atype := .int) (ty := .int) (N' := 12) rfl q591 dX4_isSoundNow_2 0 rfl (by decide) rfl (nI_pos (n := 12) (by omega)) (nI_clamp (n := 12) (by omega)) (by show _ * 4 ≤ _; omega) (by omega) (by omega) (fun q hq => ?_)
  refine jd_astore_n (ls' := [_, _, _, _, _, _, _]) dX4_isSoundNow_4 (Nat.le_of_ble_eq_true rfl) rfl rfl ?_
  refine jd_aload_n dX4_isSoundNow_5 rfl ?_
  refine jd_get in_X4 (jd_tmp (w_mthis hw)) 7 q1473 dX4_isSoundNow_6 rfl (Nat.le_of_ble_eq_true rfl) rfl ?_
  refine jd_callV (As := []) (rest := []) (ct_J2_iterator (jd_tmp hlG) (show nG κ ≤ 900 by omega)) (jd_rv (jd_tmp hlG) 15 rfl rfl) rfl q1814 q1815 q1816 q83 q1817 nJ2_iterator dX4_isSoundNow_9 rfl rfl rfl (Nat.le_of_ble_eq_true rfl) ⟨(Nat.le_of_ble_eq_true rfl), (Nat.le_of_ble_eq_true rfl), by omega, by omega⟩ (fun rv0 hn0 hq0 => ?_) jd_nox
  obtain ⟨q2, hq2, rfl, he0⟩ := hq0
  rw [he0]
  refine jd_heq (h' := (jd_up (jd_up h (0, q) (q, jd_ia G 12 (stF κ 0 0))) (0, q2) (q2, .inl (.inr (16, [.int (nI 0), .int (itL 0), .int (mcG), .ref (γ 0 2)]))))) (by rw [← stF_0]; rfl) ?_
  refine jd_astore_n (ls' := [_, _, _, _, _, _, _]) dX4_isSoundNow_12 (Nat.le_of_ble_eq_true rfl) rfl rfl ?_
  have lp13_2 : ∀ (j : Nat) (k : Nat) (hk0 : k + j = nG κ), jd_W G mX4_isSoundNow 4 (2 - 1 - 1) (16 - 12 - 4) 13 [some (.ref (γ 0 0)), some (.ref (q)), some (.ref (q2)), none, none, none, none] [] (jd_up (jd_up h (0, q) (q, jd_ia G 12 (stF κ k 0))) (0, q2) (q2, .inl (.inr (16, [.int (nI k), .int (itL k), .int (mcG), .ref (γ 0 2)])))) (jd_pu h (.int 1)) jd_no := by
    intro j
    induction j with
    | zero =>
      intro k hk0
      obtain rfl : k = nG κ := by omega
      refine jd_aload_n dX4_isSoundNow_13 rfl ?_
      refine jd_pF (n := 0) (As := []) (rest := []) (ct_J24_hasNext (jd_tmp (jd_tmp hlG)) (show nG κ ≤ 900 by omega) (c := nG κ) jd_up_s (show nG κ ≤ nG κ by omega)) (jd_rv jd_up_s 16 rfl rfl) (ci := 16) rfl (List.mem_of_getElem? (i := 5) rfl) rfl q1838 q1842 q1844 q122 q1846 q1840 q1845 q1843 q1841 ⟨by decide, by decide, by decide +kernel⟩ dX4_isSoundNow_14 rfl rfl (Nat.le_of_ble_eq_true rfl) ⟨(Nat.le_of_ble_eq_true rfl), (Nat.le_of_ble_eq_true rfl)⟩ ?_
      refine jd_bif_eq (tgt := 159) dX4_isSoundNow_19 (by decide) (fun z3 => ?_) (fun z4 => ?_)
      · refine jd_iconst (v := 0) dX4_isSoundNow_159 (by decide) ?_
        refine jd_istore_n (ls' := [_, _, _, _, _, _, _]) dX4_isSoundNow_160 (Nat.le_of_ble_eq_true rfl) rfl rfl ?_
        refine jd_aload_n dX4_isSoundNow_161 rfl ?_
        refine jd_get in_X4 (jd_tmp (jd_tmp (w_mthis hw))) 6 q1472 dX4_isSoundNow_162 rfl (Nat.le_of_ble_eq_true rfl) rfl ?_
        refine jd_astore_n (ls' := [_, _, _, _, _, _, _]) dX4_isSoundNow_165 (Nat.le_of_ble_eq_true rfl) rfl rfl ?_
        refine jd_aload_n dX4_isSoundNow_166 rfl ?_
        refine jd_alen (jd_tmp (jd_tmp (w_mlands hw))) dX4_isSoundNow_167 5 rfl ?_
        refine jd_istore (ls' := [_, _, _, _, _, _, _]) dX4_isSoundNow_168 (Nat.le_of_ble_eq_true rfl) rfl rfl ?_
        refine jd_iconst (v := 0) dX4_isSoundNow_170 (by decide) ?_
        refine jd_istore (ls' := [_, _, _, _, _, _, _]) dX4_isSoundNow_171 (Nat.le_of_ble_eq_true rfl) rfl rfl ?_
        have lp173_5 : ∀ (j : Nat) (x : Nat) (hx0 : x + j = 6), jd_W G mX4_isSoundNow 4 (2 - 1 - 1) (16 - 12 - 4) 173 [some (.ref (γ 0 0)), some (.ref (q)), some (.int ((ll_sum (fun p => lQuo κ p) x))), some (.ref (γ 0 1)), some (.int (nI 6)), some (.int (nI x)), none] [] (jd_up (jd_up h (0, q) (q, jd_ia G 12 (stF κ (nG κ) 0))) (0, q2) (q2, .inl (.inr (16, [.int (nI (nG κ)), .int (itL (nG κ)), .int (mcG), .ref (γ 0 2)])))) (jd_pu h (.int 1)) jd_no := by
          intro j
          induction j with
          | zero =>
            intro x hx0
            obtain rfl : x = 6 := by omega
            refine jd_iload dX4_isSoundNow_173 rfl ?_
            refine jd_iload dX4_isSoundNow_175 rfl ?_
            refine jd_ncmp_ge (a := 6) (b := 6) (tgt := 200) dX4_isSoundNow_177 (by decide) (by omega) (by omega) (fun z6 => ?_) (fun z7 => ?_)
            · refine jd_iconst (v := 0) dX4_isSoundNow_200 (by decide) ?_
              refine jd_istore_n (ls' := [_, _, _, _, _, _, _]) dX4_isSoundNow_201 (Nat.le_of_ble_eq_true rfl) rfl rfl ?_
              have lp202_8 : ∀ (j : Nat) (y : Nat) (hy0 : y + j = nS κ), jd_W G mX4_isSoundNow 4 (2 - 1 - 1) (16 - 12 - 4) 202 [some (.ref (γ 0 0)), some (.ref (q)), some (.int ((ll_sum (fun p => lQuo κ p) 6))), some (.int (nI y)), none, some (.int (nI 6)), none] [] (jd_up (jd_up h (0, q) (q, jd_ia G 12 (stF κ (nG κ) 0))) (0, q2) (q2, .inl (.inr (16, [.int (nI (nG κ)), .int (itL (nG κ)), .int (mcG), .ref (γ 0 2)])))) (jd_pu h (.int 1)) jd_no := by
                intro j
                induction j with
                | zero =>
                  intro y hy0
                  obtain rfl : y = nS κ := by omega
                  refine jd_iload_n dX4_isSoundNow_202 rfl ?_
                  refine jd_aload_n dX4_isSoundNow_203 rfl ?_
                  refine jd_get in_X4 (jd_tmp (jd_tmp (w_mthis hw))) 8 q1474 dX4_isSoundNow_204 rfl (Nat.le_of_ble_eq_true rfl) rfl ?_
                  refine jd_pV (As := []) (rest := [.int (nI (nS κ))]) (ct_J2_size (jd_tmp (jd_tmp hlS)) (show nS κ ≤ 900 by omega)) (jd_rv (jd_tmp (jd_tmp hlS)) 15 rfl rfl) rfl q1533 q344 q1999 q83 q346 nJ2_size dX4_isSoundNow_207 rfl rfl rfl (Nat.le_of_ble_eq_true rfl) ⟨(Nat.le_of_ble_eq_true rfl), (Nat.le_of_ble_eq_true rfl)⟩ ?_
                  refine jd_ncmp_ge (a := nS κ) (b := nS κ) (tgt := 285) dX4_isSoundNow_210 (by decide) (by omega) (by omega) (fun z9 => ?_) (fun z10 => ?_)
                  · refine jd_iload_n dX4_isSoundNow_285 rfl ?_
                    refine jd_bipush (v := 30) dX4_isSoundNow_286 (by decide) ?_
                    refine jd_icmp_ne (tgt := 307) dX4_isSoundNow_288 (by decide) (fun z11 => ?_) (fun z12 => ?_)
                    · exact absurd (quo_sum hI) z11
                    · refine jd_aload_n dX4_isSoundNow_291 rfl ?_
                      refine jd_get in_X4 (jd_tmp (jd_tmp (w_mthis hw))) 10 q1476 dX4_isSoundNow_292 rfl (Nat.le_of_ble_eq_true rfl) rfl ?_
                      refine jd_pV (As := []) (rest := []) (ct_J2_size (jd_tmp (jd_tmp hlH)) (show 3 * (hids κ).length ≤ 900 by omega)) (jd_rv (jd_tmp (jd_tmp hlH)) 15 rfl rfl) rfl q1533 q344 q1999 q83 q346 nJ2_size dX4_isSoundNow_295 rfl rfl rfl (Nat.le_of_ble_eq_true rfl) ⟨(Nat.le_of_ble_eq_true rfl), (Nat.le_of_ble_eq_true rfl)⟩ ?_
                      refine jd_bipush (v := 120) dX4_isSoundNow_298 (by decide) ?_
                      refine jd_ncmp_gt (a := 3 * (hids κ).length) (b := 120) (tgt := 307) dX4_isSoundNow_300 (by decide) (by omega) (by omega) (fun z13 => ?_) (fun z14 => ?_)
                      · omega
                      · refine jd_drop (fun i x e => jd_tmp_keep (up2_n hq2) i x (jd_tmp_keep hq i x e)) ?_
                        refine jd_iconst (v := 1) dX4_isSoundNow_303 (by decide) ?_
                        refine jd_goto (tgt := 308) dX4_isSoundNow_304 (by decide) ?_
                        exact jd_zret dX4_isSoundNow_308 rfl (Or.inr rfl) ⟨rfl, rfl⟩
                  · omega
                | succ j ih202 =>
                  intro y hy0
                  have hs1 := hIs y (by omega)
                  have hs2 := hs1.2.1
                  have hpat : (¬ sPat κ y < 0) ∧ (¬ 9 < sPat κ y) := ⟨Int32.not_lt.mpr hs1.2.2.2.2.2.1.1, Int32.not_lt.mpr hs1.2.2.2.2.2.1.2⟩
                  refine jd_iload_n dX4_isSoundNow_202 rfl ?_
                  refine jd_aload_n dX4_isSoundNow_203 rfl ?_
                  refine jd_get in_X4 (jd_tmp (jd_tmp (w_mthis hw))) 8 q1474 dX4_isSoundNow_204 rfl (Nat.le_of_ble_eq_true rfl) rfl ?_
                  refine jd_pV (As := []) (rest := [.int (nI y)]) (ct_J2_size (jd_tmp (jd_tmp hlS)) (show nS κ ≤ 900 by omega)) (jd_rv (jd_tmp (jd_tmp hlS)) 15 rfl rfl) rfl q1533 q344 q1999 q83 q346 nJ2_size dX4_isSoundNow_207 rfl rfl rfl (Nat.le_of_ble_eq_true rfl) ⟨(Nat.le_of_ble_eq_true rfl), (Nat.le_of_ble_eq_true rfl)⟩ ?_
                  refine jd_ncmp_ge (a := y) (b := nS κ) (tgt := 285) dX4_isSoundNow_210 (by decide) (by omega) (by omega) (fun z15 => ?_) (fun z16 => ?_)
                  · omega
                  · refine jd_aload_n dX4_isSoundNow_213 rfl ?_
                    refine jd_get in_X4 (jd_tmp (jd_tmp (w_mthis hw))) 8 q1474 dX4_isSoundNow_214 rfl (Nat.le_of_ble_eq_true rfl) rfl ?_
                    refine jd_iload_n dX4_isSoundNow_217 rfl ?_
                    refine jd_pV (As := [.int (nI y)]) (rest := []) (ct_J2_get (jd_tmp (jd_tmp hlS)) (show nS κ ≤ 900 by omega) (k := y) (show y < nS κ by omega)) (jd_rv (jd_tmp (jd_tmp hlS)) 15 rfl rfl) rfl q1584 q325 q2001 q83 q327 nJ2_get dX4_isSoundNow_218 rfl rfl rfl (Nat.le_of_ble_eq_true rfl) ⟨(Nat.le_of_ble_eq_true rfl), (Nat.le_of_ble_eq_true rfl)⟩ ?_
                    refine jd_castS (jd_rv (jd_tmp (jd_tmp ((w_msleeper hw) y (show y < nS κ by omega)))) 12 rfl rfl) (ci := 12) rfl q1593 dX4_isSoundNow_221 ?_
                    refine jd_astore (ls' := [_, _, _, _, _, _, _]) dX4_isSoundNow_224 (Nat.le_of_ble_eq_true rfl) rfl rfl ?_
                    refine jd_aload_n dX4_isSoundNow_226 rfl ?_
                    refine jd_iload_n dX4_isSoundNow_227 rfl ?_
                    refine jd_iald ((jd_up_n (up2_ne hq2)).trans jd_up_s) dX4_isSoundNow_228 (vp_in_nI (by omega) (by omega)) ?_
                    refine jd_top (v := .int ((stF κ (nG κ) 0) (nI (y)).toNatClampNeg)) (w := .int (((stF κ (nG κ) 0) y))) (by rw [nI_clamp (by omega)]) ?_
                    refine jd_aload dX4_isSoundNow_229 rfl ?_
                    refine jd_getN in_X10 (jd_tmp (jd_tmp ((w_msleeper hw) y (show y < nS κ by omega)))) 3 q1602 dX4_isSoundNow_231 rfl (Nat.le_of_ble_eq_true rfl) rfl ?_
                    refine jd_iconst (v := 1) dX4_isSoundNow_234 (by decide) ?_
                    refine jd_mg2 243 (.int (jd_b (((sRest κ y) = 1)))) (fun hj17 => ?_) ?_
                    · refine jd_ncmp_ne (a := (sRest κ y)) (b := 1) (tgt := 242) dX4_isSoundNow_235 (by decide) (by omega) (by omega) (fun z18 => ?_) (fun z19 => ?_)
                      · refine jd_iconst (v := 0) dX4_isSoundNow_242 (by decide) ?_
                        exact jd_top (congrArg Value.int (jd_b0 z18).symm) hj17
                      · refine jd_iconst (v := 1) dX4_isSoundNow_238 (by decide) ?_
                        refine jd_goto (tgt := 243) dX4_isSoundNow_239 (by decide) ?_
                        exact jd_top (congrArg Value.int (jd_b1 z19).symm) hj17
                    · refine jd_icmp_ne (tgt := 277) dX4_isSoundNow_243 (by decide) (fun z20 => ?_) (fun z21 => ?_)
                      · exact absurd (stF_eq hI (by omega)) z20
                      · refine jd_aload dX4_isSoundNow_246 rfl ?_
                        refine jd_getN in_X10 (jd_tmp (jd_tmp ((w_msleeper hw) y (show y < nS κ by omega)))) 2 q1601 dX4_isSoundNow_248 rfl (Nat.le_of_ble_eq_true rfl) rfl ?_
                        refine jd_iconst (v := 0) dX4_isSoundNow_251 (by decide) ?_
                        refine jd_bipush (v := 9) dX4_isSoundNow_252 (by decide) ?_
                        refine jd_pS (As := [.int ((sPat κ y)), .int (0), .int (9)]) (rest := []) (ct_X4_is ((sPat κ y)) (0) (9)) rfl q1518 q1519 q90 q1520 nX4_is dX4_isSoundNow_254 rfl rfl (Nat.le_of_ble_eq_true rfl) ⟨(Nat.le_of_ble_eq_true rfl), (Nat.le_of_ble_eq_true rfl)⟩ ?_
                        refine jd_bif_eq (tgt := 277) dX4_isSoundNow_257 (by decide) (fun z22 => ?_) (fun z23 => ?_)
                        · exact absurd hpat z22
                        · refine jd_aload dX4_isSoundNow_260 rfl ?_
                          refine jd_getN in_X10 (jd_tmp (jd_tmp ((w_msleeper hw) y (show y < nS κ by omega)))) 3 q1602 dX4_isSoundNow_262 rfl (Nat.le_of_ble_eq_true rfl) rfl ?_
                          refine jd_iconst (v := 2) dX4_isSoundNow_265 (by decide) ?_
                          refine jd_ncmp_ne (a := (sRest κ y)) (b := 2) (tgt := 279) dX4_isSoundNow_266 (by decide) (by omega) (by omega) (fun z24 => ?_) (fun z25 => ?_)
                          · refine jd_iincN (n := 1) (ls' := [_, _, _, _, _, _, _]) dX4_isSoundNow_279 rfl (Nat.le_of_ble_eq_true rfl) rfl rfl ?_
                            refine jd_goto (tgt := 202) dX4_isSoundNow_282 (by decide) ?_
                            refine jd_lsub [some (.ref (γ 0 0)), some (.ref (q)), some (.int ((ll_sum (fun p => lQuo κ p) 6))), some (.int (nI (y + 1))), none, some (.int (nI 6)), none] ⟨rfl, rfl, rfl, rfl, rfl, trivial⟩ ?_
                            exact ih202 (y + 1) (by omega)
                          · have hhd := head0 hI (by omega) z25
                            refine jd_aload_n dX4_isSoundNow_269 rfl ?_
                            refine jd_iload_n dX4_isSoundNow_270 rfl ?_
                            refine jd_pV (As := [.int (nI y)]) (rest := []) (ct_X4_head (WM.tmp (WM.tmp hw hq) (up2_n hq2)) hI (y) (by omega)) (jd_rv (jd_tmp (jd_tmp (w_mthis hw))) 9 rfl rfl) rfl q1688 q1690 qs54 q90 q1691 nX4_head dX4_isSoundNow_271 rfl rfl rfl (Nat.le_of_ble_eq_true rfl) ⟨(Nat.le_of_ble_eq_true rfl), (Nat.le_of_ble_eq_true rfl)⟩ ?_
                            refine jd_if_eq (tgt := 279) dX4_isSoundNow_274 (by decide) (fun z26 => ?_) (fun z27 => ?_)
                            · refine jd_iincN (n := 1) (ls' := [_, _, _, _, _, _, _]) dX4_isSoundNow_279 rfl (Nat.le_of_ble_eq_true rfl) rfl rfl ?_
                              refine jd_goto (tgt := 202) dX4_isSoundNow_282 (by decide) ?_
                              refine jd_lsub [some (.ref (γ 0 0)), some (.ref (q)), some (.int ((ll_sum (fun p => lQuo κ p) 6))), some (.int (nI (y + 1))), none, some (.int (nI 6)), none] ⟨rfl, rfl, rfl, rfl, rfl, trivial⟩ ?_
                              exact ih202 (y + 1) (by omega)
                            · exact absurd hhd z27
              refine jd_lsub [some (.ref (γ 0 0)), some (.ref (q)), some (.int ((ll_sum (fun p => lQuo κ p) 6))), some (.int (nI 0)), none, some (.int (nI 6)), none] ⟨rfl, rfl, rfl, rfl, rfl, trivial⟩ ?_
              exact lp202_8 (nS κ) 0 (by omega)
            · omega
          | succ j ih173 =>
            intro x hx0
            refine jd_iload dX4_isSoundNow_173 rfl ?_
            refine jd_iload dX4_isSoundNow_175 rfl ?_
            refine jd_ncmp_ge (a := x) (b := 6) (tgt := 200) dX4_isSoundNow_177 (by decide) (by omega) (by omega) (fun z28 => ?_) (fun z29 => ?_)
            · omega
            · refine jd_aload_n dX4_isSoundNow_180 rfl ?_
              refine jd_iload dX4_isSoundNow_181 rfl ?_
              refine jd_aald (y := γ 1 x) (jd_tmp (jd_tmp (w_mlands hw))) dX4_isSoundNow_183 5 rfl (vp_in_nI (by omega) (by omega)) (by rw [nI_clamp (by omega)]) ?_
              refine jd_astore (ls' := [_, _, _, _, _, _, _]) dX4_isSoundNow_184 (Nat.le_of_ble_eq_true rfl) rfl rfl ?_
              refine jd_iload_n dX4_isSoundNow_186 rfl ?_
              refine jd_aload dX4_isSoundNow_187 rfl ?_
              refine jd_getN in_X5 (jd_tmp (jd_tmp ((w_mland hw) x (show x < 6 by omega)))) 2 q1449 dX4_isSoundNow_189 rfl (Nat.le_of_ble_eq_true rfl) rfl ?_
              refine jd_iadd dX4_isSoundNow_192 ?_
              refine jd_istore_n (ls' := [_, _, _, _, _, _, _]) dX4_isSoundNow_193 (Nat.le_of_ble_eq_true rfl) rfl rfl ?_
              refine jd_iincN (n := 1) (ls' := [_, _, _, _, _, _, _]) dX4_isSoundNow_194 rfl (Nat.le_of_ble_eq_true rfl) rfl rfl ?_
              refine jd_goto (tgt := 173) dX4_isSoundNow_197 (by decide) ?_
              refine jd_lsub [some (.ref (γ 0 0)), some (.ref (q)), some (.int ((ll_sum (fun p => lQuo κ p) (x + 1)))), some (.ref (γ 0 1)), some (.int (nI 6)), some (.int (nI (x + 1))), none] ⟨rfl, rfl, rfl, rfl, rfl, rfl, trivial⟩ ?_
              exact ih173 (x + 1) (by omega)
        refine jd_lsub [some (.ref (γ 0 0)), some (.ref (q)), some (.int ((ll_sum (fun p => lQuo κ p) 0))), some (.ref (γ 0 1)), some (.int (nI 6)), some (.int (nI 0)), none] ⟨rfl, rfl, rfl, rfl, rfl, rfl, trivial⟩ ?_
        exact lp173_5 (6) 0 (by omega)
      · omega
    | succ j ih13 =>
      intro k hk0
      refine jd_aload_n dX4_isSoundNow_13 rfl ?_
      refine jd_pF (n := 0) (As := []) (rest := []) (ct_J24_hasNext (jd_tmp (jd_tmp hlG)) (show nG κ ≤ 900 by omega) (c := k) jd_up_s (show k ≤ nG κ by omega)) (jd_rv jd_up_s 16 rfl rfl) (ci := 16) rfl (List.mem_of_getElem? (i := 5) rfl) rfl q1838 q1842 q1844 q122 q1846 q1840 q1845 q1843 q1841 ⟨by decide, by decide, by decide +kernel⟩ dX4_isSoundNow_14 rfl rfl (Nat.le_of_ble_eq_true rfl) ⟨(Nat.le_of_ble_eq_true rfl), (Nat.le_of_ble_eq_true rfl)⟩ ?_
      refine jd_bif_eq (tgt := 159) dX4_isSoundNow_19 (by decide) (fun z30 => ?_) (fun z31 => ?_)
      · omega
      · refine jd_aload_n dX4_isSoundNow_22 rfl ?_
        refine jd_callF (n := 0) (As := []) (rest := []) (ct_J24_next (jd_tmp (jd_tmp hlG)) (show nG κ ≤ 900 by omega) (c := k) jd_up_s (show k < nG κ by omega)) (jd_rv jd_up_s 16 rfl rfl) (ci := 16) rfl (List.mem_of_getElem? (i := 6) rfl) rfl q1848 q1851 q1853 q122 q1855 q1850 q1854 q1852 q1841 ⟨by decide, by decide, by decide +kernel⟩ dX4_isSoundNow_23 rfl rfl (Nat.le_of_ble_eq_true rfl) ⟨(Nat.le_of_ble_eq_true rfl), (Nat.le_of_ble_eq_true rfl), by omega, by omega⟩ (fun rv31 hn31 hq31 => ?_) jd_nox
        obtain ⟨rfl, he31⟩ := hq31
        rw [he31, jd_up_up]
        refine jd_heq (h' := (jd_up (jd_up h (0, q) (q, jd_ia G 12 (stF κ k 0))) (0, q2) (q2, .inl (.inr (16, [.int (nI (k + 1)), .int (itL (k + 1)), .int (mcG), .ref (γ 0 2)]))))) rfl ?_
        refine jd_castS (jd_rv (jd_tmp (jd_tmp ((w_mgate hw) k (show k < nG κ by omega)))) 11 rfl rfl) (ci := 11) rfl q1534 dX4_isSoundNow_28 ?_
        refine jd_astore_n (ls' := [_, _, _, _, _, _, _]) dX4_isSoundNow_31 (Nat.le_of_ble_eq_true rfl) rfl rfl ?_
        refine jd_iconst (v := 0) dX4_isSoundNow_32 (by decide) ?_
        refine jd_istore (ls' := [_, _, _, _, _, _, _]) dX4_isSoundNow_33 (Nat.le_of_ble_eq_true rfl) rfl rfl ?_
        refine jd_iconst (v := 0) dX4_isSoundNow_35 (by decide) ?_
        refine jd_istore (ls' := [_, _, _, _, _, _, _]) dX4_isSoundNow_36 (Nat.le_of_ble_eq_true rfl) rfl rfl ?_
        have lp38_33 : ∀ (j : Nat) (j2 : Nat) (hj20 : j2 + j = (gQue κ k).length), jd_W G mX4_isSoundNow 4 (2 - 1 - 1 - 0) (16 - 12 - 4 - 0) 38 [some (.ref (γ 0 0)), some (.ref (q)), some (.ref (q2)), some (.ref (γ 2 k)), some (.int (jd_b (othB κ k j2 = true))), some (.int (nI j2)), none] [] (jd_up (jd_up h (0, q) (q, jd_ia G 12 (stF κ k j2))) (0, q2) (q2, .inl (.inr (16, [.int (nI (k + 1)), .int (itL (k + 1)), .int (mcG), .ref (γ 0 2)])))) (jd_pu h (.int 1)) jd_no := by
          intro j
          induction j with
          | zero =>
            intro j2 hj20
            obtain rfl : j2 = (gQue κ k).length := by omega
            have hqlk := (hIg k (by omega)).2.2.1
            refine jd_iload dX4_isSoundNow_38 rfl ?_
            refine jd_aload_n dX4_isSoundNow_40 rfl ?_
            refine jd_getN in_X8 (jd_tmp (jd_tmp ((w_mgate hw) k (show k < nG κ by omega)))) 6 q1555 dX4_isSoundNow_41 rfl (Nat.le_of_ble_eq_true rfl) rfl ?_
            obtain ⟨mcq34, hqu34⟩ := w_mqueue hw k (show k < nG κ by omega)
            have hql34 := (hIg k (show k < nG κ by omega)).2.2.1
            refine jd_pV (As := []) (rest := [.int (nI ((gQue κ k).length))]) (ct_J2_size (jd_tmp (jd_tmp hqu34)) (by omega)) (jd_rv (jd_tmp (jd_tmp hqu34)) 15 rfl rfl) rfl q1533 q344 q1999 q83 q346 nJ2_size dX4_isSoundNow_44 rfl rfl rfl (Nat.le_of_ble_eq_true rfl) ⟨(Nat.le_of_ble_eq_true rfl), (Nat.le_of_ble_eq_true rfl)⟩ ?_
            refine jd_ncmp_ge (a := (gQue κ k).length) (b := (gQue κ k).length) (tgt := 156) dX4_isSoundNow_47 (by decide) (by omega) (by omega) (fun z35 => ?_) (fun z36 => ?_)
            · refine jd_goto (tgt := 13) dX4_isSoundNow_156 (by decide) ?_
              refine jd_heq (h' := (jd_up (jd_up h (0, q) (q, jd_ia G 12 (stF κ (k + 1) 0))) (0, q2) (q2, .inl (.inr (16, [.int (nI (k + 1)), .int (itL (k + 1)), .int (mcG), .ref (γ 0 2)]))))) (by rw [stF_n]) ?_
              refine jd_lsub [some (.ref (γ 0 0)), some (.ref (q)), some (.ref (q2)), none, none, none, none] ⟨rfl, rfl, rfl, trivial⟩ ?_
              exact ih13 (k + 1) (by omega)
            · omega
          | succ j ih38 =>
            intro j2 hj20
            have hqlk := (hIg k (by omega)).2.2.1
            refine jd_iload dX4_isSoundNow_38 rfl ?_
            refine jd_aload_n dX4_isSoundNow_40 rfl ?_
            refine jd_getN in_X8 (jd_tmp (jd_tmp ((w_mgate hw) k (show k < nG κ by omega)))) 6 q1555 dX4_isSoundNow_41 rfl (Nat.le_of_ble_eq_true rfl) rfl ?_
            obtain ⟨mcq37, hqu37⟩ := w_mqueue hw k (show k < nG κ by omega)
            have hql37 := (hIg k (show k < nG κ by omega)).2.2.1
            refine jd_pV (As := []) (rest := [.int (nI j2)]) (ct_J2_size (jd_tmp (jd_tmp hqu37)) (by omega)) (jd_rv (jd_tmp (jd_tmp hqu37)) 15 rfl rfl) rfl q1533 q344 q1999 q83 q346 nJ2_size dX4_isSoundNow_44 rfl rfl rfl (Nat.le_of_ble_eq_true rfl) ⟨(Nat.le_of_ble_eq_true rfl), (Nat.le_of_ble_eq_true rfl)⟩ ?_
            refine jd_ncmp_ge (a := j2) (b := (gQue κ k).length) (tgt := 156) dX4_isSoundNow_47 (by decide) (by omega) (by omega) (fun z38 => ?_) (fun z39 => ?_)
            · omega
            · refine jd_aload_n dX4_isSoundNow_50 rfl ?_
              refine jd_getN in_X8 (jd_tmp (jd_tmp ((w_mgate hw) k (show k < nG κ by omega)))) 6 q1555 dX4_isSoundNow_51 rfl (Nat.le_of_ble_eq_true rfl) rfl ?_
              refine jd_iload dX4_isSoundNow_54 rfl ?_
              have hbx40 := q_lt hI (g := k) (show k < nG κ by omega) (j := j2) (by omega)
              refine jd_pV (As := [.int (nI j2)]) (rest := []) (ct_J2_get (jd_tmp (jd_tmp hqu37)) (by omega) (k := j2) (show j2 < (gQue κ k).length by omega)) (jd_rv (jd_tmp (jd_tmp hqu37)) 15 rfl rfl) rfl q1584 q325 q2001 q83 q327 nJ2_get dX4_isSoundNow_56 rfl rfl rfl (Nat.le_of_ble_eq_true rfl) ⟨(Nat.le_of_ble_eq_true rfl), (Nat.le_of_ble_eq_true rfl)⟩ ?_
              refine jd_castS (jd_rvB (k := (qAt κ k j2) + 128) (by omega)) (ci := 20) rfl q1696 dX4_isSoundNow_59 ?_
              refine jd_pV (As := []) (rest := []) (ct_J19_intValue (v := qAt κ k j2) (by omega)) (jd_rvB (k := (qAt κ k j2) + 128) (by omega)) rfl q1697 q1698 q1699 q115 q1700 nJ19_intValue dX4_isSoundNow_62 rfl rfl rfl (Nat.le_of_ble_eq_true rfl) ⟨(Nat.le_of_ble_eq_true rfl), (Nat.le_of_ble_eq_true rfl)⟩ ?_
              refine jd_istore (ls' := [_, _, _, _, _, _, _]) dX4_isSoundNow_65 (Nat.le_of_ble_eq_true rfl) rfl rfl ?_
              have hqm := (hIg k (by omega)).2.2.2.2.1 _ (qAt_mem (k := k) (j := j2) (by omega))
              have hq3 := hqm.1
              have hlnd : nI (gOne κ k) = nI (sLand κ (qAt κ k j2)) ∨ nI (gOther κ k) = nI (sLand κ (qAt κ k j2)) := hqm.2.2.2.imp (congrArg nI) (congrArg nI)
              refine jd_aload_n dX4_isSoundNow_67 rfl ?_
              refine jd_iload dX4_isSoundNow_68 rfl ?_
              refine jd_dup2 dX4_isSoundNow_70 rfl rfl ?_
              refine jd_iald ((jd_up_n (up2_ne hq2)).trans jd_up_s) dX4_isSoundNow_71 (vp_in_nI (by omega) (by omega)) ?_
              refine jd_top (v := .int ((stF κ k j2) (nI (qAt κ k j2)).toNatClampNeg)) (w := .int (((stF κ k j2) (qAt κ k j2)))) (by rw [nI_clamp (by omega)]) ?_
              refine jd_iconst (v := 1) dX4_isSoundNow_72 (by decide) ?_
              refine jd_iadd dX4_isSoundNow_73 ?_
              refine jd_iast ((jd_up_n (up2_ne hq2)).trans jd_up_s) dX4_isSoundNow_74 (vp_in_nI (by omega) (by omega)) ?_
              refine jd_heq (h' := (jd_up (jd_up h (0, q) (q, jd_ia G 12 (stF κ k (j2 + 1)))) (0, q2) (q2, .inl (.inr (16, [.int (nI (k + 1)), .int (itL (k + 1)), .int (mcG), .ref (γ 0 2)]))))) (by rw [up2 (up2_ne hq2), nI_clamp (by omega), stF_s hI (by omega) (by omega)]) ?_
              refine jd_aload_n dX4_isSoundNow_75 rfl ?_
              refine jd_aload_n dX4_isSoundNow_76 rfl ?_
              refine jd_get in_X4 (jd_tmp (jd_tmp (w_mthis hw))) 8 q1474 dX4_isSoundNow_77 rfl (Nat.le_of_ble_eq_true rfl) rfl ?_
              refine jd_iload dX4_isSoundNow_80 rfl ?_
              refine jd_pV (As := [.int (nI (qAt κ k j2))]) (rest := [.ref (γ 2 k)]) (ct_J2_get (jd_tmp (jd_tmp hlS)) (show nS κ ≤ 900 by omega) (k := qAt κ k j2) (show qAt κ k j2 < nS κ by omega)) (jd_rv (jd_tmp (jd_tmp hlS)) 15 rfl rfl) rfl q1584 q325 q2001 q83 q327 nJ2_get dX4_isSoundNow_82 rfl rfl rfl (Nat.le_of_ble_eq_true rfl) ⟨(Nat.le_of_ble_eq_true rfl), (Nat.le_of_ble_eq_true rfl)⟩ ?_
              refine jd_castS (jd_rv (jd_tmp (jd_tmp ((w_msleeper hw) (qAt κ k j2) (show qAt κ k j2 < nS κ by omega)))) 12 rfl rfl) (ci := 12) rfl q1593 dX4_isSoundNow_85 ?_
              refine jd_getN in_X10 (jd_tmp (jd_tmp ((w_msleeper hw) (qAt κ k j2) (show qAt κ k j2 < nS κ by omega)))) 0 q1599 dX4_isSoundNow_88 rfl (Nat.le_of_ble_eq_true rfl) rfl ?_
              refine jd_pV (As := [.int (nI ((sLand κ (qAt κ k j2))))]) (rest := []) (ct_X8_has (jd_tmp (jd_tmp ((w_mgate hw) k (show k < nG κ by omega)))) (nI ((sLand κ (qAt κ k j2))))) (jd_rv (jd_tmp (jd_tmp ((w_mgate hw) k (show k < nG κ by omega)))) 11 rfl rfl) rfl q1692 q1693 q1694 q104 q1695 nX8_has dX4_isSoundNow_91 rfl rfl rfl (Nat.le_of_ble_eq_true rfl) ⟨(Nat.le_of_ble_eq_true rfl), (Nat.le_of_ble_eq_true rfl)⟩ ?_
              refine jd_bif_eq (tgt := 120) dX4_isSoundNow_94 (by decide) (fun z41 => ?_) (fun z42 => ?_)
              · exact absurd hlnd z41
              · refine jd_iload dX4_isSoundNow_97 rfl ?_
                refine jd_bif_eq (tgt := 122) dX4_isSoundNow_99 (by decide) (fun z43 => ?_) (fun z44 => ?_)
                · refine jd_iload dX4_isSoundNow_122 rfl ?_
                  refine jd_aload_n dX4_isSoundNow_124 rfl ?_
                  refine jd_get in_X4 (jd_tmp (jd_tmp (w_mthis hw))) 8 q1474 dX4_isSoundNow_125 rfl (Nat.le_of_ble_eq_true rfl) rfl ?_
                  refine jd_iload dX4_isSoundNow_128 rfl ?_
                  refine jd_pV (As := [.int (nI (qAt κ k j2))]) (rest := [.int (jd_b (othB κ k j2 = true))]) (ct_J2_get (jd_tmp (jd_tmp hlS)) (show nS κ ≤ 900 by omega) (k := qAt κ k j2) (show qAt κ k j2 < nS κ by omega)) (jd_rv (jd_tmp (jd_tmp hlS)) 15 rfl rfl) rfl q1584 q325 q2001 q83 q327 nJ2_get dX4_isSoundNow_130 rfl rfl rfl (Nat.le_of_ble_eq_true rfl) ⟨(Nat.le_of_ble_eq_true rfl), (Nat.le_of_ble_eq_true rfl)⟩ ?_
                  refine jd_castS (jd_rv (jd_tmp (jd_tmp ((w_msleeper hw) (qAt κ k j2) (show qAt κ k j2 < nS κ by omega)))) 12 rfl rfl) (ci := 12) rfl q1593 dX4_isSoundNow_133 ?_
                  refine jd_getN in_X10 (jd_tmp (jd_tmp ((w_msleeper hw) (qAt κ k j2) (show qAt κ k j2 < nS κ by omega)))) 1 q1600 dX4_isSoundNow_136 rfl (Nat.le_of_ble_eq_true rfl) rfl ?_
                  refine jd_mg1 147 (.int (jd_b ((¬ (sBaby κ (qAt κ k j2) = true))))) (fun hj45 => ?_) ?_
                  · refine jd_bif_ne (tgt := 146) dX4_isSoundNow_139 (by decide) (fun z46 => ?_) (fun z47 => ?_)
                    · refine jd_iconst (v := 0) dX4_isSoundNow_146 (by decide) ?_
                      exact jd_top (congrArg Value.int (jd_b0 (fun w => w z46)).symm) hj45
                    · refine jd_iconst (v := 1) dX4_isSoundNow_142 (by decide) ?_
                      refine jd_goto (tgt := 147) dX4_isSoundNow_143 (by decide) ?_
                      exact jd_top (congrArg Value.int (jd_b1 z47).symm) hj45
                  · refine jd_ior dX4_isSoundNow_147 ?_
                    refine jd_top (congrArg Value.int (jd_bor _ _)) ?_
                    refine jd_istore (ls' := [_, _, _, _, _, _, _]) dX4_isSoundNow_148 (Nat.le_of_ble_eq_true rfl) rfl rfl ?_
                    refine jd_iincN (n := 1) (ls' := [_, _, _, _, _, _, _]) dX4_isSoundNow_150 rfl (Nat.le_of_ble_eq_true rfl) rfl rfl ?_
                    refine jd_goto (tgt := 38) dX4_isSoundNow_153 (by decide) ?_
                    refine jd_lsub [some (.ref (γ 0 0)), some (.ref (q)), some (.ref (q2)), some (.ref (γ 2 k)), some (.int (jd_b (othB κ k (j2 + 1) = true))), some (.int (nI (j2 + 1))), none] ⟨rfl, rfl, rfl, rfl, (congrArg (fun x => some (Value.int x)) (jd_bcong oth_s)), rfl, trivial⟩ ?_
                    exact ih38 (j2 + 1) (by omega)
                · refine jd_aload_n dX4_isSoundNow_102 rfl ?_
                  refine jd_get in_X4 (jd_tmp (jd_tmp (w_mthis hw))) 8 q1474 dX4_isSoundNow_103 rfl (Nat.le_of_ble_eq_true rfl) rfl ?_
                  refine jd_iload dX4_isSoundNow_106 rfl ?_
                  refine jd_pV (As := [.int (nI (qAt κ k j2))]) (rest := []) (ct_J2_get (jd_tmp (jd_tmp hlS)) (show nS κ ≤ 900 by omega) (k := qAt κ k j2) (show qAt κ k j2 < nS κ by omega)) (jd_rv (jd_tmp (jd_tmp hlS)) 15 rfl rfl) rfl q1584 q325 q2001 q83 q327 nJ2_get dX4_isSoundNow_108 rfl rfl rfl (Nat.le_of_ble_eq_true rfl) ⟨(Nat.le_of_ble_eq_true rfl), (Nat.le_of_ble_eq_true rfl)⟩ ?_
                  refine jd_castS (jd_rv (jd_tmp (jd_tmp ((w_msleeper hw) (qAt κ k j2) (show qAt κ k j2 < nS κ by omega)))) 12 rfl rfl) (ci := 12) rfl q1593 dX4_isSoundNow_111 ?_
                  refine jd_getN in_X10 (jd_tmp (jd_tmp ((w_msleeper hw) (qAt κ k j2) (show qAt κ k j2 < nS κ by omega)))) 1 q1600 dX4_isSoundNow_114 rfl (Nat.le_of_ble_eq_true rfl) rfl ?_
                  refine jd_bif_eq (tgt := 122) dX4_isSoundNow_117 (by decide) (fun z48 => ?_) (fun z49 => ?_)
                  · refine jd_iload dX4_isSoundNow_122 rfl ?_
                    refine jd_aload_n dX4_isSoundNow_124 rfl ?_
                    refine jd_get in_X4 (jd_tmp (jd_tmp (w_mthis hw))) 8 q1474 dX4_isSoundNow_125 rfl (Nat.le_of_ble_eq_true rfl) rfl ?_
                    refine jd_iload dX4_isSoundNow_128 rfl ?_
                    refine jd_pV (As := [.int (nI (qAt κ k j2))]) (rest := [.int (jd_b (othB κ k j2 = true))]) (ct_J2_get (jd_tmp (jd_tmp hlS)) (show nS κ ≤ 900 by omega) (k := qAt κ k j2) (show qAt κ k j2 < nS κ by omega)) (jd_rv (jd_tmp (jd_tmp hlS)) 15 rfl rfl) rfl q1584 q325 q2001 q83 q327 nJ2_get dX4_isSoundNow_130 rfl rfl rfl (Nat.le_of_ble_eq_true rfl) ⟨(Nat.le_of_ble_eq_true rfl), (Nat.le_of_ble_eq_true rfl)⟩ ?_
                    refine jd_castS (jd_rv (jd_tmp (jd_tmp ((w_msleeper hw) (qAt κ k j2) (show qAt κ k j2 < nS κ by omega)))) 12 rfl rfl) (ci := 12) rfl q1593 dX4_isSoundNow_133 ?_
                    refine jd_getN in_X10 (jd_tmp (jd_tmp ((w_msleeper hw) (qAt κ k j2) (show qAt κ k j2 < nS κ by omega)))) 1 q1600 dX4_isSoundNow_136 rfl (Nat.le_of_ble_eq_true rfl) rfl ?_
                    refine jd_mg1 147 (.int (jd_b ((¬ (sBaby κ (qAt κ k j2) = true))))) (fun hj50 => ?_) ?_
                    · refine jd_bif_ne (tgt := 146) dX4_isSoundNow_139 (by decide) (fun z51 => ?_) (fun z52 => ?_)
                      · refine jd_iconst (v := 0) dX4_isSoundNow_146 (by decide) ?_
                        exact jd_top (congrArg Value.int (jd_b0 (fun w => w z51)).symm) hj50
                      · refine jd_iconst (v := 1) dX4_isSoundNow_142 (by decide) ?_
                        refine jd_goto (tgt := 147) dX4_isSoundNow_143 (by decide) ?_
                        exact jd_top (congrArg Value.int (jd_b1 z52).symm) hj50
                    · refine jd_ior dX4_isSoundNow_147 ?_
                      refine jd_top (congrArg Value.int (jd_bor _ _)) ?_
                      refine jd_istore (ls' := [_, _, _, _, _, _, _]) dX4_isSoundNow_148 (Nat.le_of_ble_eq_true rfl) rfl rfl ?_
                      refine jd_iincN (n := 1) (ls' := [_, _, _, _, _, _, _]) dX4_isSoundNow_150 rfl (Nat.le_of_ble_eq_true rfl) rfl rfl ?_
                      refine jd_goto (tgt := 38) dX4_isSoundNow_153 (by decide) ?_
                      refine jd_lsub [some (.ref (γ 0 0)), some (.ref (q)), some (.ref (q2)), some (.ref (γ 2 k)), some (.int (jd_b (othB κ k (j2 + 1) = true))), some (.int (nI (j2 + 1))), none] ⟨rfl, rfl, rfl, rfl, (congrArg (fun x => some (Value.int x)) (jd_bcong oth_s)), rfl, trivial⟩ ?_
                      exact ih38 (j2 + 1) (by omega)
                  · exact absurd z49 (oth_no hI (by omega) (by omega) (othB_ex _ z44))
        refine jd_lsub [some (.ref (γ 0 0)), some (.ref (q)), some (.ref (q2)), some (.ref (γ 2 k)), some (.int (jd_b (othB κ k 0 = true))), some (.int (nI 0)), none] ⟨rfl, rfl, rfl, rfl, (congrArg (fun x => some (Value.int x)) oth_0), rfl, trivial⟩ ?_
        exact lp38_33 ((gQue κ k).length) 0 (by omega)
  refine jd_lsub [some (.ref (γ 0 0)), some (.ref (q)), some (.ref (q2)), none, none, none, none] ⟨rfl, rfl, rfl, trivial⟩ ?_
  exact lp13_2 (nG κ) 0 (by omega)
