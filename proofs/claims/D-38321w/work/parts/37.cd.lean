/-! the component: hours (printed by mk_c.py) -/
set_option maxRecDepth 20000 in
set_option maxHeartbeats 2000000 in
theorem ct_X7_isBeside {G : jd_G} {β : ll_B} {κ : ll_K} {h : jd_H} (hw : WC G β κ h) (hI : ll_I κ) (n k : Nat) (hn : n < nG κ) (hk : k < nG κ) : jd_Ct G mX7_isBeside 1 (0) (0) [.ref (β 2 n), .ref (β 2 k)] h (jd_pu h (.int (jd_b (besN κ n k)))) jd_no := by
  obtain ⟨⟨hG8, hS12, hP24, hH40, hN99, hH24⟩, hIg, hIs, hIp, hIh, hIl, hIq⟩ := id hI
  obtain ⟨mcL, hlL⟩ := w_lands hw
  obtain ⟨mcG, hlG⟩ := w_gates hw
  obtain ⟨mcS, hlS⟩ := w_sleepers hw
  obtain ⟨mcP, hlP⟩ := w_parts hw
  obtain ⟨mcH, hlH⟩ := w_hidings hw
  have hx1 := hIg n hn
  have hx2 := hIg k hk
  refine jd_ct (ls := [some (.ref (β 2 n)), some (.ref (β 2 k))]) rfl rfl (by decide) (Nat.le_of_ble_eq_true rfl) rfl ?_
  refine jd_aload_n dX7_isBeside_0 rfl ?_
  refine jd_aload_n dX7_isBeside_1 rfl ?_
  refine jd_get in_X7 (((w_gate hw)) k (show k < nG κ by omega)) 0 q779 dX7_isBeside_2 rfl (Nat.le_of_ble_eq_true rfl) rfl ?_
  refine jd_pV (As := [.int (nI ((gOne κ k)))]) (rest := []) (ct_X7_hasLand (((w_gate hw)) n (show n < nG κ by omega)) (nI ((gOne κ k)))) (jd_rv (((w_gate hw)) n (show n < nG κ by omega)) 3 rfl rfl) rfl q1126 q360 q361 q103 q362 nX7_hasLand dX7_isBeside_5 rfl rfl rfl (Nat.le_of_ble_eq_true rfl) ⟨(Nat.le_of_ble_eq_true rfl), (Nat.le_of_ble_eq_true rfl)⟩ ?_
  refine jd_mg1 27 (.int (jd_b ((((((nI ((gOne κ n))) = (nI ((gOne κ k)))) ∨ ((nI ((gOther κ n))) = (nI ((gOne κ k)))))) ∨ ((((nI ((gOne κ n))) = (nI ((gOther κ k)))) ∨ ((nI ((gOther κ n))) = (nI ((gOther κ k)))))))))) (fun hj1 => ?_) ?_
  · refine jd_bif_ne (tgt := 22) dX7_isBeside_8 (by decide) (fun z2 => ?_) (fun z3 => ?_)
    · refine jd_iconst (v := 1) dX7_isBeside_22 (by decide) ?_
      refine jd_goto (tgt := 27) dX7_isBeside_23 (by decide) ?_
      exact jd_top (congrArg Value.int (jd_b1 (Or.inl z2)).symm) hj1
    · refine jd_aload_n dX7_isBeside_11 rfl ?_
      refine jd_aload_n dX7_isBeside_12 rfl ?_
      refine jd_get in_X7 (((w_gate hw)) k (show k < nG κ by omega)) 1 q781 dX7_isBeside_13 rfl (Nat.le_of_ble_eq_true rfl) rfl ?_
      refine jd_pV (As := [.int (nI ((gOther κ k)))]) (rest := []) (ct_X7_hasLand (((w_gate hw)) n (show n < nG κ by omega)) (nI ((gOther κ k)))) (jd_rv (((w_gate hw)) n (show n < nG κ by omega)) 3 rfl rfl) rfl q1126 q360 q361 q103 q362 nX7_hasLand dX7_isBeside_16 rfl rfl rfl (Nat.le_of_ble_eq_true rfl) ⟨(Nat.le_of_ble_eq_true rfl), (Nat.le_of_ble_eq_true rfl)⟩ ?_
      refine jd_bif_eq (tgt := 26) dX7_isBeside_19 (by decide) (fun z4 => ?_) (fun z5 => ?_)
      · refine jd_iconst (v := 0) dX7_isBeside_26 (by decide) ?_
        exact jd_top (congrArg Value.int (jd_b0 (fun w => w.elim z3 z4)).symm) hj1
      · refine jd_iconst (v := 1) dX7_isBeside_22 (by decide) ?_
        refine jd_goto (tgt := 27) dX7_isBeside_23 (by decide) ?_
        exact jd_top (congrArg Value.int (jd_b1 (Or.inr z5)).symm) hj1
  · exact jd_zret dX7_isBeside_27 rfl (jd_b01 _) ⟨congrArg (fun x => some (Value.int x)) (jd_bcong (bes_nI hx1.1 hx2.1 hx1.2.1 hx2.2.1)), rfl⟩

set_option maxRecDepth 20000 in
set_option maxHeartbeats 2000000 in
theorem ct_X1_spread {G : jd_G} {β : ll_B} {κ : ll_K} {h : jd_H} (hw : WC G β κ h) (hI : ll_I κ)  : jd_Ct G mX1_spread 11 (17) (960) [.ref (β 0 0)] h (jd_e46 G β (k_spread κ) h) jd_no := by
  obtain ⟨⟨hG8, hS12, hP24, hH40, hN99, hH24⟩, hIg, hIs, hIp, hIh, hIl, hIq⟩ := id hI
  obtain ⟨mcL, hlL⟩ := w_lands hw
  obtain ⟨mcG, hlG⟩ := w_gates hw
  obtain ⟨mcS, hlS⟩ := w_sleepers hw
  obtain ⟨mcP, hlP⟩ := w_parts hw
  obtain ⟨mcH, hlH⟩ := w_hidings hw
  refine jd_ct (ls := [some (.ref (β 0 0)), none, none, none, none, none, none]) rfl rfl (by decide) (Nat.le_of_ble_eq_true rfl) rfl ?_
  refine jd_new (fs := [.int (0), .null, .int (0)]) in_J2 tyJ2_ok q132 q133 q83 dX1_spread_0 15 rfl rfl (by omega) (by omega) (fun q hq => ?_)
  refine jd_dup dX1_spread_3 rfl ?_
  refine jd_callI (As := []) (rest := [.ref (q)]) (ct_J2_init jd_up_s) rfl rfl q134 q135 q83 q136 nJ2_init dX1_spread_4 rfl rfl (Nat.le_of_ble_eq_true rfl) ⟨(Nat.le_of_ble_eq_true rfl), (Nat.le_of_ble_eq_true rfl), by omega, by omega⟩ (fun rv0 hn0 hq0 => ?_) jd_nox
  obtain ⟨rfl, he0⟩ := hq0
  rw [he0, jd_up_up]
  refine jd_astore_n (ls' := [_, _, _, _, _, _, _]) dX1_spread_7 (Nat.le_of_ble_eq_true rfl) rfl rfl ?_
  refine jd_iconst (v := 0) dX1_spread_8 (by decide) ?_
  refine jd_istore_n (ls' := [_, _, _, _, _, _, _]) dX1_spread_9 (Nat.le_of_ble_eq_true rfl) rfl rfl ?_
  have lp10_2 : ∀ (j : Nat) (k : Nat) (hk0 : k + j = nG κ) (mc : Int32) (f : Nat → Nat) (hx : jd_H) (hqx : hx (0, q) = none) (hw2 : WC G β κ hx) (hA : ∀ i, i < k → hx (0, f i) = some (f i, zarr G (spV κ i (nG κ)))) (hinj : ∀ i i2, i < k → i2 < k → f i = f i2 → i = i2) (hf2 : ∀ j : jd_Id, 20 ≤ j.1 → hx j = h j), jd_W G mX1_spread 11 (2 * j + 0) (119 * j + 0) 10 [some (.ref (β 0 0)), some (.ref (q)), some (.int (nI k)), none, none, none, none] [] (jd_up hx (0, q) (q, .inr (mc, k, f))) (jd_e46 G β (k_spread κ) h) jd_no := by
    intro j
    induction j with
    | zero =>
      intro k hk0 mc f hx hqx hw2 hA hinj hf2
      refine jd_iload_n dX1_spread_10 rfl ?_
      refine jd_aload_n dX1_spread_11 rfl ?_
      refine jd_get in_X1 (jd_tmp ((w_this hw2))) 1 q284 dX1_spread_12 rfl (Nat.le_of_ble_eq_true rfl) rfl ?_
      obtain ⟨mcl3, hl3_⟩ := w_gates hw2
      refine jd_pF (n := 0) (As := []) (rest := [.int (nI k)]) (ct_J2_size (jd_tmp hl3_) (show nG κ ≤ 900 by omega)) (jd_rv (jd_tmp hl3_) 15 rfl rfl) (ci := 15) rfl (List.mem_of_getElem? (i := 2) rfl) rfl q339 q342 q344 q83 q346 q341 q345 q343 q207 ⟨by decide, by decide, by decide +kernel⟩ dX1_spread_15 rfl rfl (Nat.le_of_ble_eq_true rfl) ⟨(Nat.le_of_ble_eq_true rfl), (Nat.le_of_ble_eq_true rfl)⟩ ?_
      refine jd_ncmp_ge (a := k) (b := nG κ) (tgt := 159) dX1_spread_20 (by decide) (by omega) (by omega) (fun z4 => ?_) (fun z5 => ?_)
      · refine jd_iconst (v := 0) dX1_spread_159 (by decide) ?_
        refine jd_istore_n (ls' := [_, _, _, _, _, _, _]) dX1_spread_160 (Nat.le_of_ble_eq_true rfl) rfl rfl ?_
        have lp161_6 : ∀ (j : Nat) (k2 : Nat) (hk2 : k2 + j = nG κ) (hx3 : jd_H) (b4 : Nat → Nat) (hq3 : hx3 (0, q) = none) (hw3 : WC G (ll_b46 β b4 (β 6)) (k_spP κ k2) hx3) (hA3 : ∀ i, k2 ≤ i → i < nG κ → hx3 (0, f i) = some (f i, zarr G (spV κ i (nG κ)))) (hf3 : ∀ j : jd_Id, 20 ≤ j.1 → hx3 j = h j), jd_W G mX1_spread 11 (0 * j + 0) (0 * j + 0) 161 [some (.ref (β 0 0)), some (.ref (q)), some (.int (nI k2)), none, none, none, none] [] (jd_up hx3 (0, q) (q, .inr (mc, k, f))) (jd_e46 G β (k_spread κ) h) jd_no := by
          intro j
          induction j with
          | zero =>
            intro k2 hk2 hx3 b4 hq3 hw3 hA3 hf3
            refine jd_iload_n dX1_spread_161 rfl ?_
            refine jd_aload_n dX1_spread_162 rfl ?_
            have ff7 := w_this hw3
            refine jd_get in_X1 (jd_tmp ff7) 1 q284 dX1_spread_163 rfl (Nat.le_of_ble_eq_true rfl) rfl ?_
            obtain ⟨mcl8, hl8_⟩ := w_gates hw3
            refine jd_pF (n := 0) (As := []) (rest := [.int (nI k2)]) (ct_J2_size (jd_tmp hl8_) (show nG κ ≤ 900 by omega)) (jd_rv (jd_tmp hl8_) 15 rfl rfl) (ci := 15) rfl (List.mem_of_getElem? (i := 2) rfl) rfl q339 q342 q344 q83 q346 q341 q345 q343 q207 ⟨by decide, by decide, by decide +kernel⟩ dX1_spread_166 rfl rfl (Nat.le_of_ble_eq_true rfl) ⟨(Nat.le_of_ble_eq_true rfl), (Nat.le_of_ble_eq_true rfl)⟩ ?_
            refine jd_ncmp_ge (a := k2) (b := nG κ) (tgt := 206) dX1_spread_171 (by decide) (by omega) (by omega) (fun z9 => ?_) (fun z10 => ?_)
            · exact jd_vret dX1_spread_206 rfl ⟨rfl, ⟨b4, β 6, by rw [show k_spread κ = k_spP κ k2 from congrArg (k_spP κ) (by omega)]; exact WC.tmp hw3 hq3⟩, fun j hj => (jd_up_n (ll_nek (by decide) hj)).trans (hf3 j hj)⟩
            · omega
          | succ j ih161 =>
            intro k2 hk2 hx3 b4 hq3 hw3 hA3 hf3
            refine jd_iload_n dX1_spread_161 rfl ?_
            refine jd_aload_n dX1_spread_162 rfl ?_
            have ff11 := w_this hw3
            refine jd_get in_X1 (jd_tmp ff11) 1 q284 dX1_spread_163 rfl (Nat.le_of_ble_eq_true rfl) rfl ?_
            obtain ⟨mcl12, hl12_⟩ := w_gates hw3
            refine jd_pF (n := 0) (As := []) (rest := [.int (nI k2)]) (ct_J2_size (jd_tmp hl12_) (show nG κ ≤ 900 by omega)) (jd_rv (jd_tmp hl12_) 15 rfl rfl) (ci := 15) rfl (List.mem_of_getElem? (i := 2) rfl) rfl q339 q342 q344 q83 q346 q341 q345 q343 q207 ⟨by decide, by decide, by decide +kernel⟩ dX1_spread_166 rfl rfl (Nat.le_of_ble_eq_true rfl) ⟨(Nat.le_of_ble_eq_true rfl), (Nat.le_of_ble_eq_true rfl)⟩ ?_
            refine jd_ncmp_ge (a := k2) (b := nG κ) (tgt := 206) dX1_spread_171 (by decide) (by omega) (by omega) (fun z13 => ?_) (fun z14 => ?_)
            · omega
            · refine jd_aload_n dX1_spread_174 rfl ?_
              refine jd_get in_X1 (jd_tmp ff11) 1 q284 dX1_spread_175 rfl (Nat.le_of_ble_eq_true rfl) rfl ?_
              refine jd_iload_n dX1_spread_178 rfl ?_
              refine jd_pF (n := 1) (As := [.int (nI k2)]) (rest := []) (ct_J2_get (jd_tmp hl12_) (show nG κ ≤ 900 by omega) (k := k2) (show k2 < nG κ by omega)) (jd_rv (jd_tmp hl12_) 15 rfl rfl) (ci := 15) rfl (List.mem_of_getElem? (i := 1) rfl) rfl q320 q323 q325 q83 q327 q322 q326 q324 q207 ⟨by decide, by decide, by decide +kernel⟩ dX1_spread_179 rfl rfl (Nat.le_of_ble_eq_true rfl) ⟨(Nat.le_of_ble_eq_true rfl), (Nat.le_of_ble_eq_true rfl)⟩ ?_
              have ff15 := w_gate hw3
              refine jd_castS (jd_rv (jd_tmp (ff15 k2 (show k2 < nG κ by omega))) 3 rfl rfl) (ci := 3) rfl q347 dX1_spread_184 ?_
              refine jd_aload_n dX1_spread_187 rfl ?_
              refine jd_iload_n dX1_spread_188 rfl ?_
              refine jd_pF (n := 1) (As := [.int (nI k2)]) (rest := [.ref (β 2 k2)]) (ct_J2_get jd_up_s (show k ≤ 900 by omega) (k := k2) (show k2 < k by omega)) (jd_rv jd_up_s 15 rfl rfl) (ci := 15) rfl (List.mem_of_getElem? (i := 1) rfl) rfl q320 q323 q325 q83 q327 q322 q326 q324 q207 ⟨by decide, by decide, by decide +kernel⟩ dX1_spread_189 rfl rfl (Nat.le_of_ble_eq_true rfl) ⟨(Nat.le_of_ble_eq_true rfl), (Nat.le_of_ble_eq_true rfl)⟩ ?_
              refine jd_castZ (jd_tmp_keep hq3 _ _ (hA3 k2 (Nat.le_refl _) (by omega))) q1127 dX1_spread_194 ?_
              refine jd_putN (fs' := [_, _, _, _, _, _, _, _]) in_X7 tyX7_ok nmX7 (jd_tmp (ff15 k2 (show k2 < nG κ by omega))) 6 q790 dX1_spread_197 rfl (Nat.le_of_ble_eq_true rfl) rfl rfl rfl (Nat.le_of_ble_eq_true rfl) rfl ?_
              refine jd_updT (fun z => by cases z) (fun h4 hs4 ho4 => ?_)
              have hAk := hA3 k2 (Nat.le_refl _) (by omega)
              have hqk : ((0, f k2) : jd_Id) ≠ (0, q) := fun z => by rw [z, hq3] at hAk; cases hAk
              refine jd_swapT ((ho4 _ (fun z => by cases z)).trans hAk) hqk (n := k2) (fun h5 hs5 ho5 => ?_)
              have hwn := wu_revNew hw3 (k := k2) (show k2 < nG κ by omega) hAk ((ho5 (4, k2) (fun z => by cases z) (fun z => by cases z)).trans hs4) hs5 (fun j a b c => (ho5 j b c).trans (ho4 j a))
              rw [ll_b46_4, spP_s] at hwn
              have hq5 : h5 (0, q) = none := (ho5 _ (fun z => by cases z) (Ne.symm hqk)).trans ((ho4 _ (fun z => by cases z)).trans hq3)
              have hA5 : ∀ i, k2 + 1 ≤ i → i < nG κ → h5 (0, f i) = some (f i, zarr G (spV κ i (nG κ))) := fun i h1 h2 => (ho5 _ (fun z => by cases z) (fun z => by injection z with _ z; have := hinj i k2 (by omega) (by omega) z; omega)).trans ((ho4 _ (fun z => by cases z)).trans (hA3 i (by omega) h2))
              have hf5 : ∀ j : jd_Id, 20 ≤ j.1 → h5 j = h j := fun j hj => (ho5 j (ll_nek (by decide) hj) (ll_nek (by decide) hj)).trans ((ho4 j (ll_nek (by decide) hj)).trans (hf3 j hj))
              refine jd_iincN (n := 1) (ls' := [_, _, _, _, _, _, _]) dX1_spread_200 rfl (Nat.le_of_ble_eq_true rfl) rfl rfl ?_
              refine jd_goto (tgt := 161) dX1_spread_203 (by decide) ?_
              refine jd_wk (cb' := 0 * (j) + 0) (sb' := 0 * (j) + 0) ?_ (by omega) (by omega)
              refine jd_lsub [some (.ref (β 0 0)), some (.ref (q)), some (.int (nI (k2 + 1))), none, none, none, none] ⟨rfl, rfl, rfl, trivial⟩ ?_
              exact ih161 (k2 + 1) (by omega) h5 (va_up b4 k2 (f k2)) hq5 hwn hA5 hf5
        refine jd_wk (cb' := 0 * (nG κ) + 0) (sb' := 0 * (nG κ) + 0) ?_ (by omega) (by omega)
        refine jd_lsub [some (.ref (β 0 0)), some (.ref (q)), some (.int (nI 0)), none, none, none, none] ⟨rfl, rfl, rfl, trivial⟩ ?_
        exact lp161_6 (nG κ) 0 (by omega) hx (β 4) hqx (by rw [ll_b46_id, spP_0]; exact hw2) (fun i _ hi => hA i (by omega)) hf2
      · omega
    | succ jo ih10 =>
      intro k hk0 mc f hx hqx hw2 hA hinj hf2
      refine jd_iload_n dX1_spread_10 rfl ?_
      refine jd_aload_n dX1_spread_11 rfl ?_
      refine jd_get in_X1 (jd_tmp ((w_this hw2))) 1 q284 dX1_spread_12 rfl (Nat.le_of_ble_eq_true rfl) rfl ?_
      obtain ⟨mcl17, hl17_⟩ := w_gates hw2
      refine jd_pF (n := 0) (As := []) (rest := [.int (nI k)]) (ct_J2_size (jd_tmp hl17_) (show nG κ ≤ 900 by omega)) (jd_rv (jd_tmp hl17_) 15 rfl rfl) (ci := 15) rfl (List.mem_of_getElem? (i := 2) rfl) rfl q339 q342 q344 q83 q346 q341 q345 q343 q207 ⟨by decide, by decide, by decide +kernel⟩ dX1_spread_15 rfl rfl (Nat.le_of_ble_eq_true rfl) ⟨(Nat.le_of_ble_eq_true rfl), (Nat.le_of_ble_eq_true rfl)⟩ ?_
      refine jd_ncmp_ge (a := k) (b := nG κ) (tgt := 159) dX1_spread_20 (by decide) (by omega) (by omega) (fun z18 => ?_) (fun z19 => ?_)
      · omega
      · refine jd_bipush (v := 97) dX1_spread_23 (by decide) ?_
        refine jd_newa (atype := .boolean) (ty := .boolean) (N' := 97) rfl q810 dX1_spread_25 1 rfl (by decide) rfl (nI_pos (n := 97) (by omega)) (nI_clamp (n := 97) (by omega)) (by show _ * 1 ≤ _; omega) (by omega) (by omega) (fun qa hqa => ?_)
        have hne : ((0, q) : jd_Id) ≠ (0, qa) := up2_ne hqa
        refine jd_heq (h' := (jd_up (jd_up hx (0, q) (q, .inr (mc, k, f))) (0, qa) (qa, zarr G (spV κ k 0)))) (by rfl) ?_
        refine jd_astore_n (ls' := [_, _, _, _, _, _, _]) dX1_spread_27 (Nat.le_of_ble_eq_true rfl) rfl rfl ?_
        refine jd_iconst (v := 0) dX1_spread_28 (by decide) ?_
        refine jd_istore (ls' := [_, _, _, _, _, _, _]) dX1_spread_29 (Nat.le_of_ble_eq_true rfl) rfl rfl ?_
        have lp31_20 : ∀ (j : Nat) (n : Nat) (hn0 : n + j = nG κ), jd_W G mX1_spread 11 (2 * (jo + 1) + 0 - 1) (119 * (jo + 1) + 0 - 97) 31 [some (.ref (β 0 0)), some (.ref (q)), some (.int (nI k)), some (.ref (qa)), some (.int (nI n)), none, none] [] (jd_up (jd_up hx (0, q) (q, .inr (mc, k, f))) (0, qa) (qa, zarr G (spV κ k n))) (jd_e46 G β (k_spread κ) h) jd_no := by
          intro j
          induction j with
          | zero =>
            intro n hn0
            obtain rfl : n = nG κ := by omega
            refine jd_iload dX1_spread_31 rfl ?_
            refine jd_aload_n dX1_spread_33 rfl ?_
            refine jd_get in_X1 (jd_tmp (jd_tmp ((w_this hw2)))) 1 q284 dX1_spread_34 rfl (Nat.le_of_ble_eq_true rfl) rfl ?_
            refine jd_pF (n := 0) (As := []) (rest := [.int (nI (nG κ))]) (ct_J2_size (jd_tmp (jd_tmp hl17_)) (show nG κ ≤ 900 by omega)) (jd_rv (jd_tmp (jd_tmp hl17_)) 15 rfl rfl) (ci := 15) rfl (List.mem_of_getElem? (i := 2) rfl) rfl q339 q342 q344 q83 q346 q341 q345 q343 q207 ⟨by decide, by decide, by decide +kernel⟩ dX1_spread_37 rfl rfl (Nat.le_of_ble_eq_true rfl) ⟨(Nat.le_of_ble_eq_true rfl), (Nat.le_of_ble_eq_true rfl)⟩ ?_
            refine jd_ncmp_ge (a := nG κ) (b := nG κ) (tgt := 145) dX1_spread_42 (by decide) (by omega) (by omega) (fun z21 => ?_) (fun z22 => ?_)
            · refine jd_aload_n dX1_spread_145 rfl ?_
              refine jd_aload_n dX1_spread_146 rfl ?_
              refine jd_callF (n := 1) (As := [.ref (qa)]) (rest := []) (ct_J2_add (n := k) ((jd_up_n hne).trans jd_up_s) (show k ≤ 600 by omega) (x := qa) (Cn := "[Z") q2041 (fun i hi => Or.inr (Or.inr ⟨(0, f i), _, jd_tmp_keep hqa _ _ (jd_tmp_keep hqx _ _ (hA i hi)), rfl, rfl⟩)) (Or.inr (Or.inr ⟨(0, qa), _, jd_up_s, rfl, rfl⟩))) (jd_rv ((jd_up_n hne).trans jd_up_s) 15 rfl rfl) (ci := 15) rfl (List.mem_of_getElem? (i := 0) rfl) rfl q204 q208 q210 q83 q212 q206 q211 q209 q207 ⟨by decide, by decide, by decide +kernel⟩ dX1_spread_147 rfl rfl (Nat.le_of_ble_eq_true rfl) ⟨(Nat.le_of_ble_eq_true rfl), (Nat.le_of_ble_eq_true rfl), by omega, by omega⟩ (fun rv22 hn22 hq22 => ?_) jd_nox
              obtain ⟨rfl, he22⟩ := hq22
              rw [he22, up2 hne, jd_up_cm hne]
              refine jd_pop dX1_spread_152 rfl ?_
              refine jd_iincN (n := 1) (ls' := [_, _, _, _, _, _, _]) dX1_spread_153 rfl (Nat.le_of_ble_eq_true rfl) rfl rfl ?_
              refine jd_goto (tgt := 10) dX1_spread_156 (by decide) ?_
              have hqa2 : hx (0, qa) = none := (jd_up_n (Ne.symm hne)).symm.trans hqa
              have hA2 : ∀ i, i < k + 1 → jd_up hx (0, qa) (qa, zarr G (spV κ k (nG κ))) (0, va_up f k qa i) = some (va_up f k qa i, zarr G (spV κ i (nG κ))) := fun i hi => by
                by_cases e : i = k
                · have h1 : va_up f k qa i = qa := if_pos e
                  rw [h1, e]; exact jd_up_s
                · have h1 : va_up f k qa i = f i := if_neg e
                  rw [h1]; exact jd_tmp_keep hqa2 _ _ (hA i (by omega))
              have hinj2 : ∀ i i2, i < k + 1 → i2 < k + 1 → va_up f k qa i = va_up f k qa i2 → i = i2 := inj_up hinj (fun i hi z => by have := hA i hi; rw [z, hqa2] at this; cases this)
              have hf9 : ∀ j : jd_Id, 20 ≤ j.1 → jd_up hx (0, qa) (qa, zarr G (spV κ k (nG κ))) j = h j := fun j hj => (jd_up_n (ll_nek (by decide) hj)).trans (hf2 j hj)
              refine jd_wk (cb' := 2 * (jo) + 0) (sb' := 119 * (jo) + 0) ?_ (by omega) (by omega)
              refine jd_lsub [some (.ref (β 0 0)), some (.ref (q)), some (.int (nI (k + 1))), none, none, none, none] ⟨rfl, rfl, rfl, trivial⟩ ?_
              exact ih10 (k + 1) (by omega) (mc + 1) (va_up f k qa) (jd_up hx (0, qa) (qa, zarr G (spV κ k (nG κ)))) ((jd_up_n hne).trans hqx) (WC.tmp hw2 hqa2) hA2 hinj2 hf9
            · omega
          | succ j ih31 =>
            intro n hn0
            refine jd_iload dX1_spread_31 rfl ?_
            refine jd_aload_n dX1_spread_33 rfl ?_
            refine jd_get in_X1 (jd_tmp (jd_tmp ((w_this hw2)))) 1 q284 dX1_spread_34 rfl (Nat.le_of_ble_eq_true rfl) rfl ?_
            refine jd_pF (n := 0) (As := []) (rest := [.int (nI n)]) (ct_J2_size (jd_tmp (jd_tmp hl17_)) (show nG κ ≤ 900 by omega)) (jd_rv (jd_tmp (jd_tmp hl17_)) 15 rfl rfl) (ci := 15) rfl (List.mem_of_getElem? (i := 2) rfl) rfl q339 q342 q344 q83 q346 q341 q345 q343 q207 ⟨by decide, by decide, by decide +kernel⟩ dX1_spread_37 rfl rfl (Nat.le_of_ble_eq_true rfl) ⟨(Nat.le_of_ble_eq_true rfl), (Nat.le_of_ble_eq_true rfl)⟩ ?_
            refine jd_ncmp_ge (a := n) (b := nG κ) (tgt := 145) dX1_spread_42 (by decide) (by omega) (by omega) (fun z24 => ?_) (fun z25 => ?_)
            · omega
            · refine jd_iload dX1_spread_45 rfl ?_
              refine jd_iload_n dX1_spread_47 rfl ?_
              refine jd_mg2 89 (.int (jd_b (((n = k) ∨ (besN κ n k))))) (fun hj26 => ?_) ?_
              · refine jd_ncmp_eq (a := n) (b := k) (tgt := 84) dX1_spread_48 (by decide) (by omega) (by omega) (fun z27 => ?_) (fun z28 => ?_)
                · refine jd_iconst (v := 1) dX1_spread_84 (by decide) ?_
                  refine jd_goto (tgt := 89) dX1_spread_85 (by decide) ?_
                  exact jd_top (congrArg Value.int (jd_b1 (Or.inl z27)).symm) hj26
                · refine jd_aload_n dX1_spread_51 rfl ?_
                  refine jd_get in_X1 (jd_tmp (jd_tmp ((w_this hw2)))) 1 q284 dX1_spread_52 rfl (Nat.le_of_ble_eq_true rfl) rfl ?_
                  refine jd_iload dX1_spread_55 rfl ?_
                  refine jd_pF (n := 1) (As := [.int (nI n)]) (rest := []) (ct_J2_get (jd_tmp (jd_tmp hl17_)) (show nG κ ≤ 900 by omega) (k := n) (show n < nG κ by omega)) (jd_rv (jd_tmp (jd_tmp hl17_)) 15 rfl rfl) (ci := 15) rfl (List.mem_of_getElem? (i := 1) rfl) rfl q320 q323 q325 q83 q327 q322 q326 q324 q207 ⟨by decide, by decide, by decide +kernel⟩ dX1_spread_57 rfl rfl (Nat.le_of_ble_eq_true rfl) ⟨(Nat.le_of_ble_eq_true rfl), (Nat.le_of_ble_eq_true rfl)⟩ ?_
                  refine jd_castS (jd_rv (jd_tmp (jd_tmp (((w_gate hw2)) n (show n < nG κ by omega)))) 3 rfl rfl) (ci := 3) rfl q347 dX1_spread_62 ?_
                  refine jd_aload_n dX1_spread_65 rfl ?_
                  refine jd_get in_X1 (jd_tmp (jd_tmp ((w_this hw2)))) 1 q284 dX1_spread_66 rfl (Nat.le_of_ble_eq_true rfl) rfl ?_
                  refine jd_iload_n dX1_spread_69 rfl ?_
                  refine jd_pF (n := 1) (As := [.int (nI k)]) (rest := [.ref (β 2 n)]) (ct_J2_get (jd_tmp (jd_tmp hl17_)) (show nG κ ≤ 900 by omega) (k := k) (show k < nG κ by omega)) (jd_rv (jd_tmp (jd_tmp hl17_)) 15 rfl rfl) (ci := 15) rfl (List.mem_of_getElem? (i := 1) rfl) rfl q320 q323 q325 q83 q327 q322 q326 q324 q207 ⟨by decide, by decide, by decide +kernel⟩ dX1_spread_70 rfl rfl (Nat.le_of_ble_eq_true rfl) ⟨(Nat.le_of_ble_eq_true rfl), (Nat.le_of_ble_eq_true rfl)⟩ ?_
                  refine jd_castS (jd_rv (jd_tmp (jd_tmp (((w_gate hw2)) k (show k < nG κ by omega)))) 3 rfl rfl) (ci := 3) rfl q347 dX1_spread_75 ?_
                  refine jd_pV (As := [.ref (β 2 k)]) (rest := []) (ct_X7_isBeside (WC.tmp (WC.tmp hw2 hqx) hqa) hI (n) (k) (by omega) (by omega)) (jd_rv (jd_tmp (jd_tmp (((w_gate hw2)) n (show n < nG κ by omega)))) 3 rfl rfl) rfl q1122 q1123 q1124 q103 q1125 nX7_isBeside dX1_spread_78 rfl rfl rfl (Nat.le_of_ble_eq_true rfl) ⟨(Nat.le_of_ble_eq_true rfl), (Nat.le_of_ble_eq_true rfl)⟩ ?_
                  refine jd_bif_eq (tgt := 88) dX1_spread_81 (by decide) (fun z29 => ?_) (fun z30 => ?_)
                  · refine jd_iconst (v := 0) dX1_spread_88 (by decide) ?_
                    exact jd_top (congrArg Value.int (jd_b0 (fun w => w.elim z28 z29)).symm) hj26
                  · refine jd_iconst (v := 1) dX1_spread_84 (by decide) ?_
                    refine jd_goto (tgt := 89) dX1_spread_85 (by decide) ?_
                    exact jd_top (congrArg Value.int (jd_b1 (Or.inr z30)).symm) hj26
              · refine jd_istore (ls' := [_, _, _, _, _, _, _]) dX1_spread_89 (Nat.le_of_ble_eq_true rfl) rfl rfl ?_
                refine jd_iconst (v := 0) dX1_spread_91 (by decide) ?_
                refine jd_istore (ls' := [_, _, _, _, _, _, _]) dX1_spread_92 (Nat.le_of_ble_eq_true rfl) rfl rfl ?_
                have lp94_31 : ∀ (j : Nat) (v : Nat) (hv0 : v + j = 97) (hv : v = 0 ∨ (n = k ∨ besN κ n k)), jd_W G mX1_spread 11 (2 * (jo + 1) + 0 - 1) (119 * (jo + 1) + 0 - 97) 94 [some (.ref (β 0 0)), some (.ref (q)), some (.int (nI k)), some (.ref (qa)), some (.int (nI n)), some (.int (jd_b ((n = k ∨ besN κ n k)))), some (.int (nI v))] [] (jd_up (jd_up hx (0, q) (q, .inr (mc, k, f))) (0, qa) (qa, zarr G (spM κ k n v))) (jd_e46 G β (k_spread κ) h) jd_no := by
                  intro j
                  induction j with
                  | zero =>
                    intro v hv0 hv
                    obtain rfl : v = 97 := by omega
                    refine jd_iload dX1_spread_94 rfl ?_
                    refine jd_bipush (v := 97) dX1_spread_96 (by decide) ?_
                    refine jd_ncmp_ge (a := 97) (b := 97) (tgt := 139) dX1_spread_98 (by decide) (by omega) (by omega) (fun z32 => ?_) (fun z33 => ?_)
                    · refine jd_iincN (n := 1) (ls' := [_, _, _, _, _, _, _]) dX1_spread_139 rfl (Nat.le_of_ble_eq_true rfl) rfl rfl ?_
                      refine jd_goto (tgt := 31) dX1_spread_142 (by decide) ?_
                      refine jd_heq (h' := (jd_up (jd_up hx (0, q) (q, .inr (mc, k, f))) (0, qa) (qa, zarr G (spV κ k (n + 1))))) (by rw [spM_y (hv.resolve_left (by omega))]) ?_
                      refine jd_lsub [some (.ref (β 0 0)), some (.ref (q)), some (.int (nI k)), some (.ref (qa)), some (.int (nI (n + 1))), none, none] ⟨rfl, rfl, rfl, rfl, rfl, trivial⟩ ?_
                      exact ih31 (n + 1) (by omega)
                    · omega
                  | succ j ih94 =>
                    intro v hv0 hv
                    refine jd_iload dX1_spread_94 rfl ?_
                    refine jd_bipush (v := 97) dX1_spread_96 (by decide) ?_
                    refine jd_ncmp_ge (a := v) (b := 97) (tgt := 139) dX1_spread_98 (by decide) (by omega) (by omega) (fun z34 => ?_) (fun z35 => ?_)
                    · omega
                    · refine jd_iload dX1_spread_101 rfl ?_
                      refine jd_bif_eq (tgt := 139) dX1_spread_103 (by decide) (fun z36 => ?_) (fun z37 => ?_)
                      · refine jd_iincN (n := 1) (ls' := [_, _, _, _, _, _, _]) dX1_spread_139 rfl (Nat.le_of_ble_eq_true rfl) rfl rfl ?_
                        refine jd_goto (tgt := 31) dX1_spread_142 (by decide) ?_
                        obtain rfl : v = 0 := hv.resolve_right z36
                        refine jd_heq (h' := (jd_up (jd_up hx (0, q) (q, .inr (mc, k, f))) (0, qa) (qa, zarr G (spV κ k (n + 1))))) (by rw [← spM_0, spM_n z36]) ?_
                        refine jd_lsub [some (.ref (β 0 0)), some (.ref (q)), some (.int (nI k)), some (.ref (qa)), some (.int (nI (n + 1))), none, none] ⟨rfl, rfl, rfl, rfl, rfl, trivial⟩ ?_
                        exact ih31 (n + 1) (by omega)
                      · refine jd_aload_n dX1_spread_106 rfl ?_
                        refine jd_iload dX1_spread_107 rfl ?_
                        refine jd_dup2 dX1_spread_109 rfl rfl ?_
                        refine jd_zald jd_up_s dX1_spread_110 (vp_in_nI (by omega) (by omega)) ?_
                        refine jd_top (w := .int (jd_b (spM κ k n v v = true))) (by rw [nI_clamp (by omega)]) ?_
                        refine jd_aload_n dX1_spread_111 rfl ?_
                        refine jd_get in_X1 (jd_tmp (jd_tmp ((w_this hw2)))) 1 q284 dX1_spread_112 rfl (Nat.le_of_ble_eq_true rfl) rfl ?_
                        refine jd_iload dX1_spread_115 rfl ?_
                        refine jd_pF (n := 1) (As := [.int (nI n)]) (rest := [.int (jd_b (spM κ k n v v = true)), .int (nI v), .ref (qa)]) (ct_J2_get (jd_tmp (jd_tmp hl17_)) (show nG κ ≤ 900 by omega) (k := n) (show n < nG κ by omega)) (jd_rv (jd_tmp (jd_tmp hl17_)) 15 rfl rfl) (ci := 15) rfl (List.mem_of_getElem? (i := 1) rfl) rfl q320 q323 q325 q83 q327 q322 q326 q324 q207 ⟨by decide, by decide, by decide +kernel⟩ dX1_spread_117 rfl rfl (Nat.le_of_ble_eq_true rfl) ⟨(Nat.le_of_ble_eq_true rfl), (Nat.le_of_ble_eq_true rfl)⟩ ?_
                        refine jd_castS (jd_rv (jd_tmp (jd_tmp (((w_gate hw2)) n (show n < nG κ by omega)))) 3 rfl rfl) (ci := 3) rfl q347 dX1_spread_122 ?_
                        refine jd_getN in_X7 (jd_tmp (jd_tmp (((w_gate hw2)) n (show n < nG κ by omega)))) 6 q790 dX1_spread_125 rfl (Nat.le_of_ble_eq_true rfl) rfl ?_
                        refine jd_iload dX1_spread_128 rfl ?_
                        refine jd_zald (jd_tmp (jd_tmp (((w_rev hw2)) n (show n < nG κ by omega)))) dX1_spread_130 (vp_in_nI (by omega) (by omega)) ?_
                        refine jd_top (w := .int (jd_b (gRev κ n v = true))) (by rw [nI_clamp (by omega)]) ?_
                        refine jd_ior dX1_spread_131 ?_
                        refine jd_top (congrArg Value.int (jd_bor _ _)) ?_
                        refine jd_zast jd_up_s dX1_spread_132 (vp_in_nI (by omega) (by omega)) (jd_b01 _) ?_
                        refine jd_heq (h' := (jd_up (jd_up hx (0, q) (q, .inr (mc, k, f))) (0, qa) (qa, zarr G (spM κ k n (v + 1))))) (by rw [jd_up_up, spM_up (by omega)]) ?_
                        refine jd_iincN (n := 1) (ls' := [_, _, _, _, _, _, _]) dX1_spread_133 rfl (Nat.le_of_ble_eq_true rfl) rfl rfl ?_
                        refine jd_goto (tgt := 94) dX1_spread_136 (by decide) ?_
                        refine jd_lsub [some (.ref (β 0 0)), some (.ref (q)), some (.int (nI k)), some (.ref (qa)), some (.int (nI n)), some (.int (jd_b ((n = k ∨ besN κ n k)))), some (.int (nI (v + 1)))] ⟨rfl, rfl, rfl, rfl, rfl, rfl, rfl, trivial⟩ ?_
                        exact ih94 (v + 1) (by omega) (Or.inr z37)
                refine jd_heq (h' := (jd_up (jd_up hx (0, q) (q, .inr (mc, k, f))) (0, qa) (qa, zarr G (spM κ k n 0)))) (by rw [← spM_0]) ?_
                refine jd_lsub [some (.ref (β 0 0)), some (.ref (q)), some (.int (nI k)), some (.ref (qa)), some (.int (nI n)), some (.int (jd_b ((n = k ∨ besN κ n k)))), some (.int (nI 0))] ⟨rfl, rfl, rfl, rfl, rfl, rfl, rfl, trivial⟩ ?_
                exact lp94_31 (97) 0 (by omega) (Or.inl rfl)
        refine jd_lsub [some (.ref (β 0 0)), some (.ref (q)), some (.int (nI k)), some (.ref (qa)), some (.int (nI 0)), none, none] ⟨rfl, rfl, rfl, rfl, rfl, trivial⟩ ?_
        exact lp31_20 (nG κ) 0 (by omega)
  refine jd_wk (cb' := 2 * (nG κ) + 0) (sb' := 119 * (nG κ) + 0) ?_ (by omega) (by omega)
  refine jd_lsub [some (.ref (β 0 0)), some (.ref (q)), some (.int (nI 0)), none, none, none, none] ⟨rfl, rfl, rfl, trivial⟩ ?_
  exact lp10_2 (nG κ) 0 (by omega) 0 (fun _ => 0) h hq hw (fun i hi => absurd hi (Nat.not_lt_zero i)) (fun i i2 hi => absurd hi (Nat.not_lt_zero i)) (fun _ _ => rfl)

set_option maxRecDepth 20000 in
set_option maxHeartbeats 2000000 in
theorem ct_X1_dawn {G : jd_G} {β : ll_B} {κ : ll_K} {x : Nat} {h : jd_H} (hw : WC G β (ll_sn κ 9 4 x) h) (hI : ll_I κ) (h99 : nNight κ + 1 ≤ 99)  : jd_Ct G mX1_dawn 3 (0) (0) [.ref (β 0 0)] h (jd_e46 G β (k_dawn (ll_sn κ 9 4 x)) h) jd_no := by
  obtain ⟨⟨hG8, hS12, hP24, hH40, hN99, hH24⟩, hIg, hIs, hIp, hIh, hIl, hIq⟩ := id hI
  obtain ⟨mcL, hlL⟩ := w_lands hw
  obtain ⟨mcG, hlG⟩ := w_gates hw
  obtain ⟨mcS, hlS⟩ := w_sleepers hw
  obtain ⟨mcP, hlP⟩ := w_parts hw
  obtain ⟨mcH, hlH⟩ := w_hidings hw
  refine jd_ct (ls := [some (.ref (β 0 0)), none, none, none]) rfl rfl (by decide) (Nat.le_of_ble_eq_true rfl) rfl ?_
  refine jd_aload_n dX1_dawn_0 rfl ?_
  refine jd_iconst (v := 0) dX1_dawn_1 (by decide) ?_
  refine jd_put (fs' := [_, _, _, _, _, _, _, _, _]) in_X1 tyX1_ok nmX1 ((w_this hw)) 7 q290 dX1_dawn_2 rfl (Nat.le_of_ble_eq_true rfl) rfl rfl rfl (Nat.le_of_ble_eq_true rfl) rfl ?_
  refine jd_updG (fun h1 hs1 ho1 => ?_)
  have hw1 := wu_nHour hw (v := 0) hs1 ho1
  refine jd_aload_n dX1_dawn_5 rfl ?_
  refine jd_dup dX1_dawn_6 rfl ?_
  refine jd_get in_X1 ((w_this hw1)) 6 q289 dX1_dawn_7 rfl (Nat.le_of_ble_eq_true rfl) rfl ?_
  refine jd_iconst (v := 1) dX1_dawn_10 (by decide) ?_
  refine jd_iaddN (a := (nNight (ll_sn (ll_sn κ 9 4 x) 9 4 0))) (b := 1) dX1_dawn_11 ?_
  refine jd_put (fs' := [_, _, _, _, _, _, _, _, _]) in_X1 tyX1_ok nmX1 ((w_this hw1)) 6 q289 dX1_dawn_12 rfl (Nat.le_of_ble_eq_true rfl) rfl rfl rfl (Nat.le_of_ble_eq_true rfl) rfl ?_
  refine jd_updG (fun h2 hs2 ho2 => ?_)
  have hw2 := wu_nNight hw1 (v := ((nNight (ll_sn (ll_sn κ 9 4 x) 9 4 0)) + 1)) hs2 ho2
  refine jd_iconst (v := 0) dX1_dawn_15 (by decide) ?_
  refine jd_istore_n (ls' := [_, _, _, _]) dX1_dawn_16 (Nat.le_of_ble_eq_true rfl) rfl rfl ?_
  have lp17_3 : ∀ (j : Nat) (k : Nat) (hk0 : k + j = 6) (hh : jd_H) (hw2 : WC G β (k_dn1 (k_dn0 (ll_sn κ 9 4 x)) k) hh) (hf2 : ∀ j : jd_Id, 20 ≤ j.1 → hh j = h j), jd_W G mX1_dawn 3 (0) (0) 17 [some (.ref (β 0 0)), some (.int (nI k)), none, none] [] hh (jd_e46 G β (k_dawn (ll_sn κ 9 4 x)) h) jd_no := by
    intro j
    induction j with
    | zero =>
      intro k hk0 hh hw2 hf2
      obtain rfl : k = 6 := by omega
      refine jd_iload_n dX1_dawn_17 rfl ?_
      refine jd_bipush (v := 6) dX1_dawn_18 (by decide) ?_
      refine jd_ncmp_ge (a := 6) (b := 6) (tgt := 46) dX1_dawn_20 (by decide) (by omega) (by omega) (fun z4 => ?_) (fun z5 => ?_)
      · refine jd_iconst (v := 0) dX1_dawn_46 (by decide) ?_
        refine jd_istore_n (ls' := [_, _, _, _]) dX1_dawn_47 (Nat.le_of_ble_eq_true rfl) rfl rfl ?_
        have lp48_6 : ∀ (j : Nat) (k : Nat) (hk0 : k + j = nS κ) (c6 : Nat → Nat) (hh : jd_H) (hw2 : WC G (ll_b46 β (β 4) c6) (k_dn2 (k_dn1 (k_dn0 (ll_sn κ 9 4 x)) 6) k) hh) (hf2 : ∀ j : jd_Id, 20 ≤ j.1 → hh j = h j), jd_W G mX1_dawn 3 (0) (0) 48 [some (.ref (β 0 0)), some (.int (nI k)), none, none] [] hh (jd_e46 G β (k_dawn (ll_sn κ 9 4 x)) h) jd_no := by
          intro j
          induction j with
          | zero =>
            intro k hk0 c6 hh hw2 hf2
            obtain rfl : k = nS κ := by omega
            refine jd_iload_n dX1_dawn_48 rfl ?_
            refine jd_aload_n dX1_dawn_49 rfl ?_
            have ff7 := w_this hw2
            refine jd_get in_X1 ff7 2 q285 dX1_dawn_50 rfl (Nat.le_of_ble_eq_true rfl) rfl ?_
            obtain ⟨mcl8, hl8_⟩ := w_sleepers hw2
            refine jd_pF (n := 0) (As := []) (rest := [.int (nI (nS κ))]) (ct_J2_size hl8_ (show nS κ ≤ 900 by omega)) (jd_rv hl8_ 15 rfl rfl) (ci := 15) rfl (List.mem_of_getElem? (i := 2) rfl) rfl q339 q342 q344 q83 q346 q341 q345 q343 q207 ⟨by decide, by decide, by decide +kernel⟩ dX1_dawn_53 rfl rfl (Nat.le_of_ble_eq_true rfl) ⟨(Nat.le_of_ble_eq_true rfl), (Nat.le_of_ble_eq_true rfl)⟩ ?_
            refine jd_ncmp_ge (a := nS κ) (b := nS κ) (tgt := 135) dX1_dawn_58 (by decide) (by omega) (by omega) (fun z9 => ?_) (fun z10 => ?_)
            · exact jd_vret dX1_dawn_135 rfl ⟨rfl, ⟨β 4, c6, hw2⟩, hf2⟩
            · omega
          | succ j ih48 =>
            intro k hk0 c6 hh hw2 hf2
            have hnn : nNight (k_dn2 (k_dn1 (k_dn0 (ll_sn κ 9 4 x)) 6) k) = nNight κ + 1 := rfl
            refine jd_iload_n dX1_dawn_48 rfl ?_
            refine jd_aload_n dX1_dawn_49 rfl ?_
            have ff11 := w_this hw2
            refine jd_get in_X1 ff11 2 q285 dX1_dawn_50 rfl (Nat.le_of_ble_eq_true rfl) rfl ?_
            obtain ⟨mcl12, hl12_⟩ := w_sleepers hw2
            refine jd_pF (n := 0) (As := []) (rest := [.int (nI k)]) (ct_J2_size hl12_ (show nS κ ≤ 900 by omega)) (jd_rv hl12_ 15 rfl rfl) (ci := 15) rfl (List.mem_of_getElem? (i := 2) rfl) rfl q339 q342 q344 q83 q346 q341 q345 q343 q207 ⟨by decide, by decide, by decide +kernel⟩ dX1_dawn_53 rfl rfl (Nat.le_of_ble_eq_true rfl) ⟨(Nat.le_of_ble_eq_true rfl), (Nat.le_of_ble_eq_true rfl)⟩ ?_
            refine jd_ncmp_ge (a := k) (b := nS κ) (tgt := 135) dX1_dawn_58 (by decide) (by omega) (by omega) (fun z13 => ?_) (fun z14 => ?_)
            · omega
            · refine jd_aload_n dX1_dawn_61 rfl ?_
              refine jd_get in_X1 ff11 2 q285 dX1_dawn_62 rfl (Nat.le_of_ble_eq_true rfl) rfl ?_
              refine jd_iload_n dX1_dawn_65 rfl ?_
              refine jd_pF (n := 1) (As := [.int (nI k)]) (rest := []) (ct_J2_get hl12_ (show nS κ ≤ 900 by omega) (k := k) (show k < nS κ by omega)) (jd_rv hl12_ 15 rfl rfl) (ci := 15) rfl (List.mem_of_getElem? (i := 1) rfl) rfl q320 q323 q325 q83 q327 q322 q326 q324 q207 ⟨by decide, by decide, by decide +kernel⟩ dX1_dawn_66 rfl rfl (Nat.le_of_ble_eq_true rfl) ⟨(Nat.le_of_ble_eq_true rfl), (Nat.le_of_ble_eq_true rfl)⟩ ?_
              have ff15 := w_sleeper hw2
              refine jd_castS (jd_rv (ff15 k (show k < nS κ by omega)) 4 rfl rfl) (ci := 4) rfl q352 dX1_dawn_71 ?_
              refine jd_astore_n (ls' := [_, _, _, _]) dX1_dawn_74 (Nat.le_of_ble_eq_true rfl) rfl rfl ?_
              refine jd_aload_n dX1_dawn_75 rfl ?_
              refine jd_getN in_X9 (ff15 k (show k < nS κ by omega)) 7 q864 dX1_dawn_76 rfl (Nat.le_of_ble_eq_true rfl) rfl ?_
              refine jd_pV (As := []) (rest := []) (ct_pres hw2 (k := k) (show k < nS κ by omega)) (w_rvO hw2 (k := k) (show k < nS κ by omega)) rfl q497 q498 q499 q108 q500 nJ17_isPresent dX1_dawn_79 rfl rfl rfl (Nat.le_of_ble_eq_true rfl) ⟨(Nat.le_of_ble_eq_true rfl), (Nat.le_of_ble_eq_true rfl)⟩ ?_
              refine jd_bif_eq (tgt := 109) dX1_dawn_82 (by decide) (fun z16 => ?_) (fun z17 => ?_)
              · refine jd_iconst (v := 0) dX1_dawn_109 (by decide) ?_
                refine jd_istore_n (ls' := [_, _, _, _]) dX1_dawn_110 (Nat.le_of_ble_eq_true rfl) rfl rfl ?_
                refine jd_aload_n dX1_dawn_111 rfl ?_
                refine jd_iload_n dX1_dawn_112 rfl ?_
                refine jd_nif_eq (a := 0) (tgt := 122) dX1_dawn_113 (by decide) (by omega) (fun z18 => ?_) (fun z19 => ?_)
                · refine jd_aload_n dX1_dawn_122 rfl ?_
                  refine jd_getN in_X9 (ff15 k (show k < nS κ by omega)) 7 q864 dX1_dawn_123 rfl (Nat.le_of_ble_eq_true rfl) rfl ?_
                  refine jd_putN (fs' := [_, _, _, _, _, _, _, _]) in_X9 tyX9_ok nmX9 (ff15 k (show k < nS κ by omega)) 7 q864 dX1_dawn_126 rfl (Nat.le_of_ble_eq_true rfl) rfl rfl rfl (Nat.le_of_ble_eq_true rfl) rfl ?_
                  refine jd_updG (fun h20 hs20 ho20 => ?_)
                  have heq20 : h20 = hh := funext fun j => if e : j = (7, k) then by rw [e, hs20]; exact (w_sleeper hw2 k (show k < nS κ by omega)).symm else ho20 j e
                  refine jd_iincN (n := 1) (ls' := [_, _, _, _]) dX1_dawn_129 rfl (Nat.le_of_ble_eq_true rfl) rfl rfl ?_
                  refine jd_goto (tgt := 48) dX1_dawn_132 (by decide) ?_
                  have hw3 : WC G (ll_b46 β (β 4) c6) (k_dn2 (k_dn1 (k_dn0 (ll_sn κ 9 4 x)) 6) (k + 1)) h20 := by rw [heq20, ← dn2_n (fun w => z16 w.1)]; exact hw2
                  refine jd_lsub [some (.ref (β 0 0)), some (.int (nI (k + 1))), none, none] ⟨rfl, rfl, trivial⟩ ?_
                  exact ih48 (k + 1) (by omega) c6 h20 hw3 (fun j hj => ((ho20 j (ll_nek (by decide) hj)).trans (hf2 j hj)))
                · omega
              · have hpb := dn2_ps (κ := (k_dn1 (k_dn0 (ll_sn κ 9 4 x)) 6)) (k := k) (I_dn hI h99) (show k < nS κ by omega) z17
                refine jd_aload_n dX1_dawn_85 rfl ?_
                refine jd_getN in_X9 (ff15 k (show k < nS κ by omega)) 7 q864 dX1_dawn_86 rfl (Nat.le_of_ble_eq_true rfl) rfl ?_
                refine jd_pV (As := []) (rest := []) (ct_J17_get (w_passI hw2 (k := k) (show k < nS κ by omega) (by assumption)).1) (w_rvO hw2 (k := k) (show k < nS κ by omega)) rfl q501 q502 q503 q108 q504 nJ17_get dX1_dawn_89 rfl rfl rfl (Nat.le_of_ble_eq_true rfl) ⟨(Nat.le_of_ble_eq_true rfl), (Nat.le_of_ble_eq_true rfl)⟩ ?_
                refine jd_castS (jd_rv (w_passI hw2 (k := k) (show k < nS κ by omega) (by assumption)).2 6 rfl rfl) (ci := 6) rfl q505 dX1_dawn_92 ?_
                refine jd_getN in_X13 (w_passI hw2 (k := k) (show k < nS κ by omega) (by assumption)).2 1 q956 dX1_dawn_95 rfl (Nat.le_of_ble_eq_true rfl) rfl ?_
                refine jd_aload_n dX1_dawn_98 rfl ?_
                refine jd_get in_X1 ff11 6 q289 dX1_dawn_99 rfl (Nat.le_of_ble_eq_true rfl) rfl ?_
                refine jd_ncmp_ge (a := (psN (k_dn2 (k_dn1 (k_dn0 (ll_sn κ 9 4 x)) 6) k) k)) (b := (nNight (k_dn2 (k_dn1 (k_dn0 (ll_sn κ 9 4 x)) 6) k))) (tgt := 109) dX1_dawn_102 (by decide) (by omega) (by omega) (fun z21 => ?_) (fun z22 => ?_)
                · refine jd_iconst (v := 0) dX1_dawn_109 (by decide) ?_
                  refine jd_istore_n (ls' := [_, _, _, _]) dX1_dawn_110 (Nat.le_of_ble_eq_true rfl) rfl rfl ?_
                  refine jd_aload_n dX1_dawn_111 rfl ?_
                  refine jd_iload_n dX1_dawn_112 rfl ?_
                  refine jd_nif_eq (a := 0) (tgt := 122) dX1_dawn_113 (by decide) (by omega) (fun z23 => ?_) (fun z24 => ?_)
                  · refine jd_aload_n dX1_dawn_122 rfl ?_
                    refine jd_getN in_X9 (ff15 k (show k < nS κ by omega)) 7 q864 dX1_dawn_123 rfl (Nat.le_of_ble_eq_true rfl) rfl ?_
                    refine jd_putN (fs' := [_, _, _, _, _, _, _, _]) in_X9 tyX9_ok nmX9 (ff15 k (show k < nS κ by omega)) 7 q864 dX1_dawn_126 rfl (Nat.le_of_ble_eq_true rfl) rfl rfl rfl (Nat.le_of_ble_eq_true rfl) rfl ?_
                    refine jd_updG (fun h25 hs25 ho25 => ?_)
                    have heq25 : h25 = hh := funext fun j => if e : j = (7, k) then by rw [e, hs25]; exact (w_sleeper hw2 k (show k < nS κ by omega)).symm else ho25 j e
                    refine jd_iincN (n := 1) (ls' := [_, _, _, _]) dX1_dawn_129 rfl (Nat.le_of_ble_eq_true rfl) rfl rfl ?_
                    refine jd_goto (tgt := 48) dX1_dawn_132 (by decide) ?_
                    have hw3 : WC G (ll_b46 β (β 4) c6) (k_dn2 (k_dn1 (k_dn0 (ll_sn κ 9 4 x)) 6) (k + 1)) h25 := by rw [heq25, ← dn2_n (fun w => absurd w.2 (Nat.not_lt.mpr z21))]; exact hw2
                    refine jd_lsub [some (.ref (β 0 0)), some (.int (nI (k + 1))), none, none] ⟨rfl, rfl, trivial⟩ ?_
                    exact ih48 (k + 1) (by omega) c6 h25 hw3 (fun j hj => ((ho25 j (ll_nek (by decide) hj)).trans (hf2 j hj)))
                  · omega
                · refine jd_iconst (v := 1) dX1_dawn_105 (by decide) ?_
                  refine jd_goto (tgt := 110) dX1_dawn_106 (by decide) ?_
                  refine jd_istore_n (ls' := [_, _, _, _]) dX1_dawn_110 (Nat.le_of_ble_eq_true rfl) rfl rfl ?_
                  refine jd_aload_n dX1_dawn_111 rfl ?_
                  refine jd_iload_n dX1_dawn_112 rfl ?_
                  refine jd_nif_eq (a := 1) (tgt := 122) dX1_dawn_113 (by decide) (by omega) (fun z26 => ?_) (fun z27 => ?_)
                  · omega
                  · refine jd_pS (As := []) (rest := [.ref (β 5 k)]) ct_J17_empty rfl q1087 q844 q108 q845 nJ17_empty dX1_dawn_116 rfl rfl (Nat.le_of_ble_eq_true rfl) ⟨(Nat.le_of_ble_eq_true rfl), (Nat.le_of_ble_eq_true rfl)⟩ ?_
                    refine jd_goto (tgt := 126) dX1_dawn_119 (by decide) ?_
                    refine jd_putN (fs' := [_, _, _, _, _, _, _, _]) in_X9 tyX9_ok nmX9 (ff15 k (show k < nS κ by omega)) 7 q864 dX1_dawn_126 rfl (Nat.le_of_ble_eq_true rfl) rfl rfl rfl (Nat.le_of_ble_eq_true rfl) rfl ?_
                    refine jd_updG (fun h28 hs28 ho28 => ?_)
                    have hw28 := wu_sPassN hw2 (k := k) (show k < nS κ by omega) hs28 (fun j _ h7 => ho28 j h7) (fun a y e => (ho28 _ (fun z => by cases z)).trans e)
                    refine jd_iincN (n := 1) (ls' := [_, _, _, _]) dX1_dawn_129 rfl (Nat.le_of_ble_eq_true rfl) rfl rfl ?_
                    refine jd_goto (tgt := 48) dX1_dawn_132 (by decide) ?_
                    have hw3 : WC G (ll_b46 β (β 4) (va_up c6 k (jd_k G 1))) (k_dn2 (k_dn1 (k_dn0 (ll_sn κ 9 4 x)) 6) (k + 1)) h28 := by rw [← dn2_y z17 (Nat.not_le.mp (Nat.not_le.mpr z22)), ← ll_b46_6]; exact hw28
                    refine jd_lsub [some (.ref (β 0 0)), some (.int (nI (k + 1))), none, none] ⟨rfl, rfl, trivial⟩ ?_
                    exact ih48 (k + 1) (by omega) (va_up c6 k (jd_k G 1)) h28 hw3 (fun j hj => ((ho28 j (ll_nek (by decide) hj)).trans (hf2 j hj)))
        refine jd_lsub [some (.ref (β 0 0)), some (.int (nI 0)), none, none] ⟨rfl, rfl, trivial⟩ ?_
        exact lp48_6 (nS κ) 0 (by omega) (β 6) hh (by rw [ll_b46_id, dn2_0]; exact hw2) (fun j hj => (hf2 j hj))
      · omega
    | succ j ih17 =>
      intro k hk0 hh hw2 hf2
      refine jd_iload_n dX1_dawn_17 rfl ?_
      refine jd_bipush (v := 6) dX1_dawn_18 (by decide) ?_
      refine jd_ncmp_ge (a := k) (b := 6) (tgt := 46) dX1_dawn_20 (by decide) (by omega) (by omega) (fun z29 => ?_) (fun z30 => ?_)
      · omega
      · refine jd_aload_n dX1_dawn_23 rfl ?_
        refine jd_get in_X1 ((w_this hw2)) 0 q283 dX1_dawn_24 rfl (Nat.le_of_ble_eq_true rfl) rfl ?_
        refine jd_iload_n dX1_dawn_27 rfl ?_
        obtain ⟨mcl31, hl31_⟩ := w_lands hw2
        refine jd_pF (n := 1) (As := [.int (nI k)]) (rest := []) (ct_J2_get hl31_ (show 6 ≤ 900 by omega) (k := k) (show k < 6 by omega)) (jd_rv hl31_ 15 rfl rfl) (ci := 15) rfl (List.mem_of_getElem? (i := 1) rfl) rfl q320 q323 q325 q83 q327 q322 q326 q324 q207 ⟨by decide, by decide, by decide +kernel⟩ dX1_dawn_28 rfl rfl (Nat.le_of_ble_eq_true rfl) ⟨(Nat.le_of_ble_eq_true rfl), (Nat.le_of_ble_eq_true rfl)⟩ ?_
        refine jd_castS (jd_rv (((w_land hw2)) k (show k < 6 by omega)) 2 rfl rfl) (ci := 2) rfl q175 dX1_dawn_33 ?_
        refine jd_iconst (v := 0) dX1_dawn_36 (by decide) ?_
        refine jd_putN (fs' := [_, _, _, _, _, _]) in_X3 tyX3_ok nmX3 (((w_land hw2)) k (show k < 6 by omega)) 3 q187 dX1_dawn_37 rfl (Nat.le_of_ble_eq_true rfl) rfl rfl rfl (Nat.le_of_ble_eq_true rfl) rfl ?_
        refine jd_updG (fun h32 hs32 ho32 => ?_)
        have hw32 := wu_lNight hw2 (k := k) (show k < 6 by omega) (v := 0) hs32 ho32
        refine jd_iincN (n := 1) (ls' := [_, _, _, _]) dX1_dawn_40 rfl (Nat.le_of_ble_eq_true rfl) rfl rfl ?_
        refine jd_goto (tgt := 17) dX1_dawn_43 (by decide) ?_
        have hw3 : WC G β (k_dn1 (k_dn0 (ll_sn κ 9 4 x)) (k + 1)) h32 := by rw [← dn1_s]; exact hw32
        refine jd_lsub [some (.ref (β 0 0)), some (.int (nI (k + 1))), none, none] ⟨rfl, rfl, trivial⟩ ?_
        exact ih17 (k + 1) (by omega) h32 hw3 (fun j hj => ((ho32 j (ll_nek (by decide) hj)).trans (hf2 j hj)))
  refine jd_lsub [some (.ref (β 0 0)), some (.int (nI 0)), none, none] ⟨rfl, rfl, trivial⟩ ?_
  exact lp17_3 (6) 0 (by omega) h2 (by rw [dn1_0]; exact hw2) (fun j hj => ((ho2 j (ll_nek (by decide) hj)).trans (ho1 j (ll_nek (by decide) hj))))

set_option maxRecDepth 20000 in
set_option maxHeartbeats 2000000 in
theorem ct_X1_go_2 {G : jd_G} {β : ll_B} {κ : ll_K} {h : jd_H} (hw : WC G β κ h) (hI : ll_I κ) (h99 : nHour κ + 1 = 24 → nNight κ + 1 ≤ 99) : jd_Ct G mX1_go_2 12 (17) (960) [.ref (β 0 0)] h (jd_e46 G β (k_go κ) h) jd_no := by
  obtain ⟨⟨hG8, hS12, hP24, hH40, hN99, hH24⟩, hIg, hIs, hIp, hIh, hIl, hIq⟩ := id hI
  obtain ⟨mcL, hlL⟩ := w_lands hw
  obtain ⟨mcG, hlG⟩ := w_gates hw
  obtain ⟨mcS, hlS⟩ := w_sleepers hw
  obtain ⟨mcP, hlP⟩ := w_parts hw
  obtain ⟨mcH, hlH⟩ := w_hidings hw
  refine jd_ct (ls := [some (.ref (β 0 0)), none, none]) rfl rfl (by decide) (Nat.le_of_ble_eq_true rfl) rfl ?_
  refine jd_aload_n dX1_go_2_0 rfl ?_
  refine jd_dup dX1_go_2_1 rfl ?_
  refine jd_get in_X1 ((w_this hw)) 7 q290 dX1_go_2_2 rfl (Nat.le_of_ble_eq_true rfl) rfl ?_
  refine jd_iconst (v := 1) dX1_go_2_5 (by decide) ?_
  refine jd_iaddN (a := (nHour κ)) (b := 1) dX1_go_2_6 ?_
  refine jd_put (fs' := [_, _, _, _, _, _, _, _, _]) in_X1 tyX1_ok nmX1 ((w_this hw)) 7 q290 dX1_go_2_7 rfl (Nat.le_of_ble_eq_true rfl) rfl rfl rfl (Nat.le_of_ble_eq_true rfl) rfl ?_
  refine jd_updG (fun h1 hs1 ho1 => ?_)
  have hw1 := wu_nHour hw (v := ((nHour κ) + 1)) hs1 ho1
  refine jd_aload_n dX1_go_2_10 rfl ?_
  refine jd_get in_X1 ((w_this hw1)) 7 q290 dX1_go_2_11 rfl (Nat.le_of_ble_eq_true rfl) rfl ?_
  refine jd_top (w := .int (nI (nHour κ + 1))) rfl ?_
  refine jd_bipush (v := 24) dX1_go_2_14 (by decide) ?_
  refine jd_ncmp_ne (a := nHour κ + 1) (b := 24) (tgt := 23) dX1_go_2_16 (by decide) (by omega) (by omega) (fun z2 => ?_) (fun z3 => ?_)
  · have he24 : ¬ nHour κ + 1 = 24 := z2
    have hw1 : WC G β (k_go1 κ) h1 := by rw [k_go1, if_neg he24]; exact hw1
    have hI1 := I_go1 hI h99
    obtain ⟨hc1, hc2, hc3, hc4⟩ := go1_c (κ := κ)
    have hG8x := hI1.1.1
    refine jd_aload_n dX1_go_2_23 rfl ?_
    refine jd_callV (As := []) (rest := []) (ct_X1_spread hw1 hI1) (jd_rv ((w_this hw1)) 0 rfl rfl) rfl q1118 q1120 qs48 q80 q1121 nX1_spread dX1_go_2_24 rfl rfl rfl (Nat.le_of_ble_eq_true rfl) ⟨(Nat.le_of_ble_eq_true rfl), (Nat.le_of_ble_eq_true rfl), by omega, by omega⟩ (fun rv3 hn3 hq3 => ?_) jd_nox
    obtain ⟨rfl, ⟨b3, c3, hw3_⟩, hf3_⟩ := hq3
    refine jd_iconst (v := 0) dX1_go_2_27 (by decide) ?_
    refine jd_istore_n (ls' := [_, _, _]) dX1_go_2_28 (Nat.le_of_ble_eq_true rfl) rfl rfl ?_
    have lp29_5 : ∀ (j : Nat) (k : Nat) (hk0 : k + j = nG (k_go1 κ)) (hh : jd_H) (hw2 : WC G (ll_b46 β b3 c3) (k_wch (k_spread (k_go1 κ)) k) hh) (hf2 : ∀ j : jd_Id, 20 ≤ j.1 → hh j = h j), jd_W G mX1_go_2 12 (17 - 17) (960 - 960) 29 [some (.ref (β 0 0)), some (.int (nI k)), none] [] hh (jd_e46 G β (k_go κ) h) jd_no := by
      intro j
      induction j with
      | zero =>
        intro k hk0 hh hw2 hf2
        obtain rfl : k = nG (k_go1 κ) := by omega
        have hnhr : nHour (k_wch (k_spread (k_go1 κ)) (nG (k_go1 κ))) = nHour (k_go1 κ) := rfl
        refine jd_iload_n dX1_go_2_29 rfl ?_
        refine jd_aload_n dX1_go_2_30 rfl ?_
        have ff6 := w_this hw2
        refine jd_get in_X1 ff6 1 q284 dX1_go_2_31 rfl (Nat.le_of_ble_eq_true rfl) rfl ?_
        obtain ⟨mcl7, hl7_⟩ := w_gates hw2
        refine jd_pF (n := 0) (As := []) (rest := [.int (nI (nG (k_go1 κ)))]) (ct_J2_size hl7_ (show nG (k_go1 κ) ≤ 900 by omega)) (jd_rv hl7_ 15 rfl rfl) (ci := 15) rfl (List.mem_of_getElem? (i := 2) rfl) rfl q339 q342 q344 q83 q346 q341 q345 q343 q207 ⟨by decide, by decide, by decide +kernel⟩ dX1_go_2_34 rfl rfl (Nat.le_of_ble_eq_true rfl) ⟨(Nat.le_of_ble_eq_true rfl), (Nat.le_of_ble_eq_true rfl)⟩ ?_
        refine jd_ncmp_ge (a := nG (k_go1 κ)) (b := nG (k_go1 κ)) (tgt := 87) dX1_go_2_39 (by decide) (by omega) (by omega) (fun z8 => ?_) (fun z9 => ?_)
        · exact jd_vret dX1_go_2_87 rfl ⟨rfl, ⟨b3, c3, by rw [k_go, ← hc1]; exact hw2⟩, hf2⟩
        · omega
      | succ j ih29 =>
        intro k hk0 hh hw2 hf2
        have hnhr : nHour (k_wch (k_spread (k_go1 κ)) k) = nHour (k_go1 κ) := rfl
        refine jd_iload_n dX1_go_2_29 rfl ?_
        refine jd_aload_n dX1_go_2_30 rfl ?_
        have ff10 := w_this hw2
        refine jd_get in_X1 ff10 1 q284 dX1_go_2_31 rfl (Nat.le_of_ble_eq_true rfl) rfl ?_
        obtain ⟨mcl11, hl11_⟩ := w_gates hw2
        refine jd_pF (n := 0) (As := []) (rest := [.int (nI k)]) (ct_J2_size hl11_ (show nG (k_go1 κ) ≤ 900 by omega)) (jd_rv hl11_ 15 rfl rfl) (ci := 15) rfl (List.mem_of_getElem? (i := 2) rfl) rfl q339 q342 q344 q83 q346 q341 q345 q343 q207 ⟨by decide, by decide, by decide +kernel⟩ dX1_go_2_34 rfl rfl (Nat.le_of_ble_eq_true rfl) ⟨(Nat.le_of_ble_eq_true rfl), (Nat.le_of_ble_eq_true rfl)⟩ ?_
        refine jd_ncmp_ge (a := k) (b := nG (k_go1 κ)) (tgt := 87) dX1_go_2_39 (by decide) (by omega) (by omega) (fun z12 => ?_) (fun z13 => ?_)
        · omega
        · refine jd_aload_n dX1_go_2_42 rfl ?_
          refine jd_get in_X1 ff10 1 q284 dX1_go_2_43 rfl (Nat.le_of_ble_eq_true rfl) rfl ?_
          refine jd_iload_n dX1_go_2_46 rfl ?_
          refine jd_pF (n := 1) (As := [.int (nI k)]) (rest := []) (ct_J2_get hl11_ (show nG (k_go1 κ) ≤ 900 by omega) (k := k) (show k < nG (k_go1 κ) by omega)) (jd_rv hl11_ 15 rfl rfl) (ci := 15) rfl (List.mem_of_getElem? (i := 1) rfl) rfl q320 q323 q325 q83 q327 q322 q326 q324 q207 ⟨by decide, by decide, by decide +kernel⟩ dX1_go_2_47 rfl rfl (Nat.le_of_ble_eq_true rfl) ⟨(Nat.le_of_ble_eq_true rfl), (Nat.le_of_ble_eq_true rfl)⟩ ?_
          have ff14 := w_gate hw2
          refine jd_castS (jd_rv (ff14 k (show k < nG (k_go1 κ) by omega)) 3 rfl rfl) (ci := 3) rfl q347 dX1_go_2_52 ?_
          refine jd_astore_n (ls' := [_, _, _]) dX1_go_2_55 (Nat.le_of_ble_eq_true rfl) rfl rfl ?_
          refine jd_aload_n dX1_go_2_56 rfl ?_
          refine jd_aload_n dX1_go_2_57 rfl ?_
          refine jd_aload_n dX1_go_2_58 rfl ?_
          refine jd_get in_X1 ff10 7 q290 dX1_go_2_59 rfl (Nat.le_of_ble_eq_true rfl) rfl ?_
          refine jd_pV (As := [.int (nI ((nHour (k_wch (k_spread (k_go1 κ)) k))))]) (rest := [.ref (β 2 k)]) (ct_X7_isOpen (ff14 k (show k < nG (k_go1 κ) by omega)) (nI ((nHour (k_wch (k_spread (k_go1 κ)) k))))) (jd_rv (ff14 k (show k < nG (k_go1 κ) by omega)) 3 rfl rfl) rfl q457 q458 q459 q103 q460 nX7_isOpen dX1_go_2_62 rfl rfl rfl (Nat.le_of_ble_eq_true rfl) ⟨(Nat.le_of_ble_eq_true rfl), (Nat.le_of_ble_eq_true rfl)⟩ ?_
          refine jd_mg1 78 (.int ((if (¬ (((gHours (k_wch (k_spread (k_go1 κ)) k) k)) ≤ (jd_rem ((((nI ((nHour (k_wch (k_spread (k_go1 κ)) k)))) - ((gFrom (k_wch (k_spread (k_go1 κ)) k) k))) + 24)) (24)))) then ((gWatch (k_wch (k_spread (k_go1 κ)) k) k) + 1) else 0))) (fun hj15 => ?_) ?_
          · refine jd_bif_eq (tgt := 77) dX1_go_2_65 (by decide) (fun z16 => ?_) (fun z17 => ?_)
            · refine jd_iconst (v := 0) dX1_go_2_77 (by decide) ?_
              exact jd_top (congrArg Value.int (by rw [if_neg z16])) hj15
            · refine jd_aload_n dX1_go_2_68 rfl ?_
              refine jd_getN in_X7 (ff14 k (show k < nG (k_go1 κ) by omega)) 5 q788 dX1_go_2_69 rfl (Nat.le_of_ble_eq_true rfl) rfl ?_
              refine jd_iconst (v := 1) dX1_go_2_72 (by decide) ?_
              refine jd_iadd dX1_go_2_73 ?_
              refine jd_goto (tgt := 78) dX1_go_2_74 (by decide) ?_
              exact jd_top (congrArg Value.int (by rw [if_pos z17])) hj15
          · refine jd_putN (fs' := [_, _, _, _, _, _, _, _]) in_X7 tyX7_ok nmX7 (ff14 k (show k < nG (k_go1 κ) by omega)) 5 q788 dX1_go_2_78 rfl (Nat.le_of_ble_eq_true rfl) rfl rfl rfl (Nat.le_of_ble_eq_true rfl) rfl ?_
            refine jd_updG (fun h18 hs18 ho18 => ?_)
            have hw18 := wu_gWatch hw2 (k := k) (show k < nG (k_go1 κ) by omega) (v := (if (¬ (((gHours (k_wch (k_spread (k_go1 κ)) k) k)) ≤ (jd_rem ((((nI ((nHour (k_wch (k_spread (k_go1 κ)) k)))) - ((gFrom (k_wch (k_spread (k_go1 κ)) k) k))) + 24)) (24)))) then ((gWatch (k_wch (k_spread (k_go1 κ)) k) k) + 1) else 0)) hs18 ho18
            refine jd_iincN (n := 1) (ls' := [_, _, _]) dX1_go_2_81 rfl (Nat.le_of_ble_eq_true rfl) rfl rfl ?_
            refine jd_goto (tgt := 29) dX1_go_2_84 (by decide) ?_
            have hw3 : WC G (ll_b46 β b3 c3) (k_wch (k_spread (k_go1 κ)) (k + 1)) h18 := by rw [← wch_s]; exact hw18
            refine jd_lsub [some (.ref (β 0 0)), some (.int (nI (k + 1))), none] ⟨rfl, rfl, trivial⟩ ?_
            exact ih29 (k + 1) (by omega) h18 hw3 (fun j hj => ((ho18 j (ll_nek (by decide) hj)).trans (hf2 j hj)))
    refine jd_lsub [some (.ref (β 0 0)), some (.int (nI 0)), none] ⟨rfl, rfl, trivial⟩ ?_
    exact lp29_5 (nG (k_go1 κ)) 0 (by omega) hn3 (by rw [wch_0]; exact hw3_) (fun j hj => ((hf3_ j hj).trans (ho1 j (ll_nek (by decide) hj))))
  · have he24 : nHour κ + 1 = 24 := z3
    have hd99 := h99 he24
    refine jd_aload_n dX1_go_2_19 rfl ?_
    refine jd_callV (As := []) (rest := []) (ct_X1_dawn hw1 hI hd99) (jd_rv ((w_this hw1)) 0 rfl rfl) rfl q1114 q1116 qs47 q80 q1117 nX1_dawn dX1_go_2_20 rfl rfl rfl (Nat.le_of_ble_eq_true rfl) ⟨(Nat.le_of_ble_eq_true rfl), (Nat.le_of_ble_eq_true rfl), by omega, by omega⟩ (fun rv18 hn18 hq18 => ?_) jd_nox
    obtain ⟨rfl, ⟨b18, c18, hw18_⟩, hf18_⟩ := hq18
    have hw1 : WC G (ll_b46 β b18 c18) (k_go1 κ) hn18 := by rw [k_go1, if_pos he24]; exact hw18_
    have hI1 := I_go1 hI h99
    obtain ⟨hc1, hc2, hc3, hc4⟩ := go1_c (κ := κ)
    have hG8x := hI1.1.1
    refine jd_aload_n dX1_go_2_23 rfl ?_
    have ff20 := w_this hw1
    refine jd_callV (As := []) (rest := []) (ct_X1_spread hw1 hI1) (jd_rv ff20 0 rfl rfl) rfl q1118 q1120 qs48 q80 q1121 nX1_spread dX1_go_2_24 rfl rfl rfl (Nat.le_of_ble_eq_true rfl) ⟨(Nat.le_of_ble_eq_true rfl), (Nat.le_of_ble_eq_true rfl), by omega, by omega⟩ (fun rv20 hn20 hq20 => ?_) jd_nox
    obtain ⟨rfl, ⟨b20, c20, hw20_⟩, hf20_⟩ := hq20
    rw [ll_b46_2] at hw20_
    refine jd_iconst (v := 0) dX1_go_2_27 (by decide) ?_
    refine jd_istore_n (ls' := [_, _, _]) dX1_go_2_28 (Nat.le_of_ble_eq_true rfl) rfl rfl ?_
    have lp29_22 : ∀ (j : Nat) (k : Nat) (hk0 : k + j = nG (k_go1 κ)) (hh : jd_H) (hw2 : WC G (ll_b46 β b20 c20) (k_wch (k_spread (k_go1 κ)) k) hh) (hf2 : ∀ j : jd_Id, 20 ≤ j.1 → hh j = h j), jd_W G mX1_go_2 12 (17 - 0 - 17) (960 - 0 - 960) 29 [some (.ref (β 0 0)), some (.int (nI k)), none] [] hh (jd_e46 G β (k_go κ) h) jd_no := by
      intro j
      induction j with
      | zero =>
        intro k hk0 hh hw2 hf2
        obtain rfl : k = nG (k_go1 κ) := by omega
        have hnhr : nHour (k_wch (k_spread (k_go1 κ)) (nG (k_go1 κ))) = nHour (k_go1 κ) := rfl
        refine jd_iload_n dX1_go_2_29 rfl ?_
        refine jd_aload_n dX1_go_2_30 rfl ?_
        have ff23 := w_this hw2
        refine jd_get in_X1 ff23 1 q284 dX1_go_2_31 rfl (Nat.le_of_ble_eq_true rfl) rfl ?_
        obtain ⟨mcl24, hl24_⟩ := w_gates hw2
        refine jd_pF (n := 0) (As := []) (rest := [.int (nI (nG (k_go1 κ)))]) (ct_J2_size hl24_ (show nG (k_go1 κ) ≤ 900 by omega)) (jd_rv hl24_ 15 rfl rfl) (ci := 15) rfl (List.mem_of_getElem? (i := 2) rfl) rfl q339 q342 q344 q83 q346 q341 q345 q343 q207 ⟨by decide, by decide, by decide +kernel⟩ dX1_go_2_34 rfl rfl (Nat.le_of_ble_eq_true rfl) ⟨(Nat.le_of_ble_eq_true rfl), (Nat.le_of_ble_eq_true rfl)⟩ ?_
        refine jd_ncmp_ge (a := nG (k_go1 κ)) (b := nG (k_go1 κ)) (tgt := 87) dX1_go_2_39 (by decide) (by omega) (by omega) (fun z25 => ?_) (fun z26 => ?_)
        · exact jd_vret dX1_go_2_87 rfl ⟨rfl, ⟨b20, c20, by rw [k_go, ← hc1]; exact hw2⟩, hf2⟩
        · omega
      | succ j ih29 =>
        intro k hk0 hh hw2 hf2
        have hnhr : nHour (k_wch (k_spread (k_go1 κ)) k) = nHour (k_go1 κ) := rfl
        refine jd_iload_n dX1_go_2_29 rfl ?_
        refine jd_aload_n dX1_go_2_30 rfl ?_
        have ff27 := w_this hw2
        refine jd_get in_X1 ff27 1 q284 dX1_go_2_31 rfl (Nat.le_of_ble_eq_true rfl) rfl ?_
        obtain ⟨mcl28, hl28_⟩ := w_gates hw2
        refine jd_pF (n := 0) (As := []) (rest := [.int (nI k)]) (ct_J2_size hl28_ (show nG (k_go1 κ) ≤ 900 by omega)) (jd_rv hl28_ 15 rfl rfl) (ci := 15) rfl (List.mem_of_getElem? (i := 2) rfl) rfl q339 q342 q344 q83 q346 q341 q345 q343 q207 ⟨by decide, by decide, by decide +kernel⟩ dX1_go_2_34 rfl rfl (Nat.le_of_ble_eq_true rfl) ⟨(Nat.le_of_ble_eq_true rfl), (Nat.le_of_ble_eq_true rfl)⟩ ?_
        refine jd_ncmp_ge (a := k) (b := nG (k_go1 κ)) (tgt := 87) dX1_go_2_39 (by decide) (by omega) (by omega) (fun z29 => ?_) (fun z30 => ?_)
        · omega
        · refine jd_aload_n dX1_go_2_42 rfl ?_
          refine jd_get in_X1 ff27 1 q284 dX1_go_2_43 rfl (Nat.le_of_ble_eq_true rfl) rfl ?_
          refine jd_iload_n dX1_go_2_46 rfl ?_
          refine jd_pF (n := 1) (As := [.int (nI k)]) (rest := []) (ct_J2_get hl28_ (show nG (k_go1 κ) ≤ 900 by omega) (k := k) (show k < nG (k_go1 κ) by omega)) (jd_rv hl28_ 15 rfl rfl) (ci := 15) rfl (List.mem_of_getElem? (i := 1) rfl) rfl q320 q323 q325 q83 q327 q322 q326 q324 q207 ⟨by decide, by decide, by decide +kernel⟩ dX1_go_2_47 rfl rfl (Nat.le_of_ble_eq_true rfl) ⟨(Nat.le_of_ble_eq_true rfl), (Nat.le_of_ble_eq_true rfl)⟩ ?_
          have ff31 := w_gate hw2
          refine jd_castS (jd_rv (ff31 k (show k < nG (k_go1 κ) by omega)) 3 rfl rfl) (ci := 3) rfl q347 dX1_go_2_52 ?_
          refine jd_astore_n (ls' := [_, _, _]) dX1_go_2_55 (Nat.le_of_ble_eq_true rfl) rfl rfl ?_
          refine jd_aload_n dX1_go_2_56 rfl ?_
          refine jd_aload_n dX1_go_2_57 rfl ?_
          refine jd_aload_n dX1_go_2_58 rfl ?_
          refine jd_get in_X1 ff27 7 q290 dX1_go_2_59 rfl (Nat.le_of_ble_eq_true rfl) rfl ?_
          refine jd_pV (As := [.int (nI ((nHour (k_wch (k_spread (k_go1 κ)) k))))]) (rest := [.ref (β 2 k)]) (ct_X7_isOpen (ff31 k (show k < nG (k_go1 κ) by omega)) (nI ((nHour (k_wch (k_spread (k_go1 κ)) k))))) (jd_rv (ff31 k (show k < nG (k_go1 κ) by omega)) 3 rfl rfl) rfl q457 q458 q459 q103 q460 nX7_isOpen dX1_go_2_62 rfl rfl rfl (Nat.le_of_ble_eq_true rfl) ⟨(Nat.le_of_ble_eq_true rfl), (Nat.le_of_ble_eq_true rfl)⟩ ?_
          refine jd_mg1 78 (.int ((if (¬ (((gHours (k_wch (k_spread (k_go1 κ)) k) k)) ≤ (jd_rem ((((nI ((nHour (k_wch (k_spread (k_go1 κ)) k)))) - ((gFrom (k_wch (k_spread (k_go1 κ)) k) k))) + 24)) (24)))) then ((gWatch (k_wch (k_spread (k_go1 κ)) k) k) + 1) else 0))) (fun hj32 => ?_) ?_
          · refine jd_bif_eq (tgt := 77) dX1_go_2_65 (by decide) (fun z33 => ?_) (fun z34 => ?_)
            · refine jd_iconst (v := 0) dX1_go_2_77 (by decide) ?_
              exact jd_top (congrArg Value.int (by rw [if_neg z33])) hj32
            · refine jd_aload_n dX1_go_2_68 rfl ?_
              refine jd_getN in_X7 (ff31 k (show k < nG (k_go1 κ) by omega)) 5 q788 dX1_go_2_69 rfl (Nat.le_of_ble_eq_true rfl) rfl ?_
              refine jd_iconst (v := 1) dX1_go_2_72 (by decide) ?_
              refine jd_iadd dX1_go_2_73 ?_
              refine jd_goto (tgt := 78) dX1_go_2_74 (by decide) ?_
              exact jd_top (congrArg Value.int (by rw [if_pos z34])) hj32
          · refine jd_putN (fs' := [_, _, _, _, _, _, _, _]) in_X7 tyX7_ok nmX7 (ff31 k (show k < nG (k_go1 κ) by omega)) 5 q788 dX1_go_2_78 rfl (Nat.le_of_ble_eq_true rfl) rfl rfl rfl (Nat.le_of_ble_eq_true rfl) rfl ?_
            refine jd_updG (fun h35 hs35 ho35 => ?_)
            have hw35 := wu_gWatch hw2 (k := k) (show k < nG (k_go1 κ) by omega) (v := (if (¬ (((gHours (k_wch (k_spread (k_go1 κ)) k) k)) ≤ (jd_rem ((((nI ((nHour (k_wch (k_spread (k_go1 κ)) k)))) - ((gFrom (k_wch (k_spread (k_go1 κ)) k) k))) + 24)) (24)))) then ((gWatch (k_wch (k_spread (k_go1 κ)) k) k) + 1) else 0)) hs35 ho35
            refine jd_iincN (n := 1) (ls' := [_, _, _]) dX1_go_2_81 rfl (Nat.le_of_ble_eq_true rfl) rfl rfl ?_
            refine jd_goto (tgt := 29) dX1_go_2_84 (by decide) ?_
            have hw3 : WC G (ll_b46 β b20 c20) (k_wch (k_spread (k_go1 κ)) (k + 1)) h35 := by rw [← wch_s]; exact hw35
            refine jd_lsub [some (.ref (β 0 0)), some (.int (nI (k + 1))), none] ⟨rfl, rfl, trivial⟩ ?_
            exact ih29 (k + 1) (by omega) h35 hw3 (fun j hj => ((ho35 j (ll_nek (by decide) hj)).trans (hf2 j hj)))
    refine jd_lsub [some (.ref (β 0 0)), some (.int (nI 0)), none] ⟨rfl, rfl, trivial⟩ ?_
    exact lp29_22 (nG (k_go1 κ)) 0 (by omega) hn20 (by rw [wch_0]; exact hw20_) (fun j hj => ((hf20_ j hj).trans ((hf18_ j hj).trans (ho1 j (ll_nek (by decide) hj)))))

set_option maxRecDepth 20000 in
set_option maxHeartbeats 2000000 in
theorem ct_X1_pass {G : jd_G} {β : ll_B} {κ : ll_K} {h : jd_H} (hw : WC G β κ h) (hI : ll_I κ) (H : Int32) : jd_Ct G mX1_pass 13 (820) (46100) [.ref (β 0 0), .int (H)] h (jd_op G β h (c_pass κ H) (.int (nI (nHour (k_pass κ H)))) (k_pass κ H)) (jd_th h (c_pass κ H) nmC) := by
  obtain ⟨⟨hG8, hS12, hP24, hH40, hN99, hH24⟩, hIg, hIs, hIp, hIh, hIl, hIq⟩ := id hI
  obtain ⟨mcL, hlL⟩ := w_lands hw
  obtain ⟨mcG, hlG⟩ := w_gates hw
  obtain ⟨mcS, hlS⟩ := w_sleepers hw
  obtain ⟨mcP, hlP⟩ := w_parts hw
  obtain ⟨mcH, hlH⟩ := w_hidings hw
  refine jd_ct (ls := [some (.ref (β 0 0)), some (.int (H)), none]) rfl rfl (by decide) (Nat.le_of_ble_eq_true rfl) rfl ?_
  refine jd_iload_n dX1_pass_0 rfl ?_
  refine jd_iconst (v := 1) dX1_pass_1 (by decide) ?_
  refine jd_bipush (v := 48) dX1_pass_2 (by decide) ?_
  refine jd_callS (As := [.int (H), .int (1), .int (48)]) (rest := []) (ct_X1_mustBeIn (H) (1) (48)) rfl q718 q719 q80 q720 nX1_mustBeIn dX1_pass_4 rfl rfl (Nat.le_of_ble_eq_true rfl) ⟨(Nat.le_of_ble_eq_true rfl), (Nat.le_of_ble_eq_true rfl), by omega, by omega⟩ (fun rv0 hn0 hq0 => ?_) (fun E h2 hx => by obtain ⟨h3, h4, h5⟩ := hx; subst h5; have hx : ¬ _ ∧ True := ⟨h3, trivial⟩; exact jd_xout rfl (jd_th.mk (k := 1) (by unfold c_pass; rw [if_neg hx.1]) (by decide) h4))
  obtain ⟨hb0, rfl, he0⟩ := hq0
  rw [he0]
  obtain ⟨k_H, hk_H, rfl⟩ := inR_ex (lo := 1) (hi := 48) hb0 (by omega) (by omega)
  have hT_H := tN_nI (show k_H < 2 ^ 31 by omega)
  refine jd_aload_n dX1_pass_7 rfl ?_
  refine jd_get in_X1 ((w_this hw)) 6 q289 dX1_pass_8 rfl (Nat.le_of_ble_eq_true rfl) rfl ?_
  refine jd_aload_n dX1_pass_11 rfl ?_
  refine jd_get in_X1 ((w_this hw)) 7 q290 dX1_pass_12 rfl (Nat.le_of_ble_eq_true rfl) rfl ?_
  refine jd_iload_n dX1_pass_15 rfl ?_
  refine jd_iaddN (a := (nHour κ)) (b := k_H) dX1_pass_16 ?_
  refine jd_bipush (v := 24) dX1_pass_17 (by decide) ?_
  refine jd_idivN (a := ((nHour κ) + k_H)) (b := 24) dX1_pass_19 (by omega) (by omega) (by omega) ?_
  refine jd_iaddN (a := (nNight κ)) (b := (((nHour κ) + k_H) / 24)) dX1_pass_20 ?_
  refine jd_bipush (v := 99) dX1_pass_21 (by decide) ?_
  refine jd_mg2 31 (.int (jd_b ((¬ (99 < ((nNight κ) + (((nHour κ) + k_H) / 24))))))) (fun hj2 => ?_) ?_
  · refine jd_ncmp_gt (a := ((nNight κ) + (((nHour κ) + k_H) / 24))) (b := 99) (tgt := 30) dX1_pass_23 (by decide) (by omega) (by omega) (fun z3 => ?_) (fun z4 => ?_)
    · refine jd_iconst (v := 0) dX1_pass_30 (by decide) ?_
      exact jd_top (congrArg Value.int (jd_b0 (fun w => w z3)).symm) hj2
    · refine jd_iconst (v := 1) dX1_pass_26 (by decide) ?_
      refine jd_goto (tgt := 31) dX1_pass_27 (by decide) ?_
      exact jd_top (congrArg Value.int (jd_b1 (Nat.not_lt.mpr z4)).symm) hj2
  · refine jd_callS (As := [.int (jd_b ((¬ (99 < ((nNight κ) + (((nHour κ) + k_H) / 24))))))]) (rest := []) (ct_X1_checkState ((¬ (99 < ((nNight κ) + (((nHour κ) + k_H) / 24)))))) rfl q747 q748 q80 q749 nX1_checkState dX1_pass_31 rfl rfl (Nat.le_of_ble_eq_true rfl) ⟨(Nat.le_of_ble_eq_true rfl), (Nat.le_of_ble_eq_true rfl), by omega, by omega⟩ (fun rv4 hn4 hq4 => ?_) (fun E h2 hx => by obtain ⟨h3, h4, h5⟩ := hx; subst h5; have hx : ¬ _ ∧ True := ⟨h3, trivial⟩; exact jd_xout rfl (jd_th.mk (k := 2) (by unfold c_pass; (try simp only [hT_H]); rw [if_pos hb0, if_neg hx.1]) (by decide) h4))
    obtain ⟨hb4, rfl, he4⟩ := hq4
    rw [he4]
    have hok := goN_ok (H := k_H) hI (Nat.not_lt.mp hb4)
    refine jd_iload_n dX1_pass_34 rfl ?_
    refine jd_istore_n (ls' := [_, _, _]) dX1_pass_35 (Nat.le_of_ble_eq_true rfl) rfl rfl ?_
    have lp36_6 : ∀ (j : Nat) (i : Nat) (hi0 : i + j = k_H) (b c : Nat → Nat) (hh : jd_H) (hw2 : WC G (ll_b46 β b c) (k_goN κ i) hh) (hf2 : ∀ j : jd_Id, 20 ≤ j.1 → hh j = h j), jd_W G mX1_pass 13 (17 * j + 0) (960 * j + 0) 36 [some (.ref (β 0 0)), some (.int (nI k_H)), some (.int (nI j))] [] hh (jd_op G β h (c_pass κ (nI k_H)) (.int (nI (nHour (k_pass κ (nI k_H))))) (k_pass κ (nI k_H))) (jd_th h (c_pass κ (nI k_H)) nmC) := by
      intro j
      induction j with
      | zero =>
        intro i hi0 b c hh hw2 hf2
        have hIi := (hok i (by omega)).1.1
        refine jd_iload_n dX1_pass_36 rfl ?_
        refine jd_nif_le (a := 0) (tgt := 50) dX1_pass_37 (by decide) (by omega) (fun z7 => ?_) (fun z8 => ?_)
        · refine jd_aload_n dX1_pass_50 rfl ?_
          have ff9 := w_this hw2
          refine jd_get in_X1 ff9 7 q290 dX1_pass_51 rfl (Nat.le_of_ble_eq_true rfl) rfl ?_
          exact jd_iret dX1_pass_54 rfl ⟨by unfold c_pass; (try simp only [hT_H]); rw [if_pos hb0, if_pos hb4], by rw [k_pass, hT_H, show k_H = i by omega], (ll_b46 β b c), rfl, (by rw [k_pass, hT_H, show k_H = i by omega]; exact hw2), hf2⟩
        · omega
      | succ j ih36 =>
        intro i hi0 b c hh hw2 hf2
        have hIi := (hok i (by omega)).1.1
        refine jd_iload_n dX1_pass_36 rfl ?_
        refine jd_nif_le (a := (j + 1)) (tgt := 50) dX1_pass_37 (by decide) (by omega) (fun z10 => ?_) (fun z11 => ?_)
        · omega
        · refine jd_aload_n dX1_pass_40 rfl ?_
          have ff12 := w_this hw2
          refine jd_callV (As := []) (rest := []) (ct_X1_go_2 hw2 (hok i (by omega)).1 ((hok i (by omega)).2 (by omega))) (jd_rv ff12 0 rfl rfl) rfl q1110 q1112 qs46 q80 q1113 nX1_go_2 dX1_pass_41 rfl rfl rfl (Nat.le_of_ble_eq_true rfl) ⟨(Nat.le_of_ble_eq_true rfl), (Nat.le_of_ble_eq_true rfl), by omega, by omega⟩ (fun rv12 hn12 hq12 => ?_) jd_nox
          obtain ⟨rfl, ⟨b12, c12, hw12_⟩, hf12_⟩ := hq12
          rw [ll_b46_2] at hw12_
          refine jd_iinc (v := (nI ((j + 1)) + (-1))) (ls' := [_, _, _]) dX1_pass_44 rfl (by first | rfl | decide) (Nat.le_of_ble_eq_true rfl) rfl rfl ?_
          refine jd_goto (tgt := 36) dX1_pass_47 (by decide) ?_
          refine jd_wk (cb' := 17 * (j) + 0) (sb' := 960 * (j) + 0) ?_ (by omega) (by omega)
          refine jd_lsub [some (.ref (β 0 0)), some (.int (nI k_H)), some (.int (nI j))] ⟨rfl, rfl, (congrArg (fun x => some (Value.int x)) (nI_dec (by omega))), trivial⟩ ?_
          exact ih36 (i + 1) (by omega) b12 c12 hn12 hw12_ (fun j hj => ((hf12_ j hj).trans (hf2 j hj)))
    refine jd_wk (cb' := 17 * (k_H) + 0) (sb' := 960 * (k_H) + 0) ?_ (by omega) (by omega)
    refine jd_lsub [some (.ref (β 0 0)), some (.int (nI k_H)), some (.int (nI k_H))] ⟨rfl, rfl, rfl, trivial⟩ ?_
    exact lp36_6 k_H 0 (by omega) (β 4) (β 6) h (by rw [ll_b46_id]; exact hw) (fun _ _ => rfl)
