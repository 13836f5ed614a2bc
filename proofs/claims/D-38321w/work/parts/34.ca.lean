/-! the component: inside of acts (printed by mk_c.py) -/
set_option maxRecDepth 20000 in
set_option maxHeartbeats 2000000 in
theorem ct_X9_lie {G : jd_G} {β : ll_B} {κ : ll_K} {h : jd_H} (hw : WC G β κ h) (s : Nat) (hs : s < nS κ) : jd_Ct G mX9_lie 0 (0) (0) [.ref (β 5 s)] h (jd_ef G β (k_lie κ s) h none) jd_no := by
  have hnone := True.intro
  refine jd_ct (ls := [some (.ref (β 5 s))]) rfl rfl (by decide) (Nat.le_of_ble_eq_true rfl) rfl ?_
  refine jd_aload_n dX9_lie_0 rfl ?_
  refine jd_gets (jd_zR (k := 0) (by decide) rfl) q841 dX9_lie_1 ?_
  refine jd_put (fs' := [_, _, _, _, _, _, _, _]) in_X9 tyX9_ok nmX9 (((w_sleeper hw)) s (show s < nS κ by omega)) 4 q857 dX9_lie_4 rfl (Nat.le_of_ble_eq_true rfl) rfl rfl rfl (Nat.le_of_ble_eq_true rfl) rfl ?_
  refine jd_updG (fun h1 hs1 ho1 => ?_)
  have hw1 := wu_sRest hw (k := s) (show s < nS κ by omega) (v := 0) hs1 ho1
  refine jd_aload_n dX9_lie_7 rfl ?_
  refine jd_iconst (v := (-1)) dX9_lie_8 (by decide) ?_
  refine jd_put (fs' := [_, _, _, _, _, _, _, _]) in_X9 tyX9_ok nmX9 (((w_sleeper hw1)) s (show s < nS κ by omega)) 5 q859 dX9_lie_9 rfl (Nat.le_of_ble_eq_true rfl) rfl rfl rfl (Nat.le_of_ble_eq_true rfl) rfl ?_
  refine jd_updG (fun h2 hs2 ho2 => ?_)
  have hw2 := wu_sGate hw1 (k := s) (show s < nS κ by omega) (v := none) hs2 ho2
  refine jd_aload_n dX9_lie_12 rfl ?_
  refine jd_iconst (v := 0) dX9_lie_13 (by decide) ?_
  refine jd_put (fs' := [_, _, _, _, _, _, _, _]) in_X9 tyX9_ok nmX9 (((w_sleeper hw2)) s (show s < nS κ by omega)) 6 q861 dX9_lie_14 rfl (Nat.le_of_ble_eq_true rfl) rfl rfl rfl (Nat.le_of_ble_eq_true rfl) rfl ?_
  refine jd_updG (fun h3 hs3 ho3 => ?_)
  have hw3 := wu_sDecl hw2 (k := s) (show s < nS κ by omega) (v := 0) hs3 ho3
  exact jd_vret dX9_lie_17 rfl ⟨rfl, hw3, (fun j hj => ((ho3 j (ll_nek (by decide) hj)).trans ((ho2 j (ll_nek (by decide) hj)).trans (ho1 j (ll_nek (by decide) hj)))))⟩

set_option maxRecDepth 20000 in
set_option maxHeartbeats 2000000 in
theorem ct_X11_keep {G : jd_G} {β : ll_B} {κ : ll_K} {h : jd_H} (hw : WC G β κ h) (p l f : Nat) (hp : p < nP κ) : jd_Ct G mX11_keep 0 (0) (0) [.ref (β 8 p), .int (nI l), .ref (jd_fA G f)] h (jd_ef G β (k_keep κ p l f) h none) jd_no := by
  have hnone := True.intro
  refine jd_ct (ls := [some (.ref (β 8 p)), some (.int (nI l)), some (.ref (jd_fA G f))]) rfl rfl (by decide) (Nat.le_of_ble_eq_true rfl) rfl ?_
  refine jd_aload_n dX11_keep_0 rfl ?_
  refine jd_iconst (v := (-1)) dX11_keep_1 (by decide) ?_
  refine jd_put (fs' := [_, _, _, _, _, _, _]) in_X11 tyX11_ok nmX11 (((w_part hw)) p (show p < nP κ by omega)) 3 q907 dX11_keep_2 rfl (Nat.le_of_ble_eq_true rfl) rfl rfl rfl (Nat.le_of_ble_eq_true rfl) rfl ?_
  refine jd_updG (fun h1 hs1 ho1 => ?_)
  have hw1 := wu_pHead hw (k := p) (show p < nP κ by omega) (v := none) hs1 ho1
  refine jd_aload_n dX11_keep_5 rfl ?_
  refine jd_iload_n dX11_keep_6 rfl ?_
  refine jd_put (fs' := [_, _, _, _, _, _, _]) in_X11 tyX11_ok nmX11 (((w_part hw1)) p (show p < nP κ by omega)) 4 q909 dX11_keep_7 rfl (Nat.le_of_ble_eq_true rfl) rfl rfl rfl (Nat.le_of_ble_eq_true rfl) rfl ?_
  refine jd_updG (fun h2 hs2 ho2 => ?_)
  have hw2 := wu_pStore hw1 (k := p) (show p < nP κ by omega) (v := some l) hs2 ho2
  refine jd_aload_n dX11_keep_10 rfl ?_
  refine jd_aload_n dX11_keep_11 rfl ?_
  refine jd_put (fs' := [_, _, _, _, _, _, _]) in_X11 tyX11_ok nmX11 (((w_part hw2)) p (show p < nP κ by omega)) 5 q911 dX11_keep_12 rfl (Nat.le_of_ble_eq_true rfl) rfl rfl rfl (Nat.le_of_ble_eq_true rfl) rfl ?_
  refine jd_updG (fun h3 hs3 ho3 => ?_)
  have hw3 := wu_pFate hw2 (k := p) (show p < nP κ by omega) (v := f) hs3 ho3
  exact jd_vret dX11_keep_15 rfl ⟨rfl, hw3, (fun j hj => ((ho3 j (ll_nek (by decide) hj)).trans ((ho2 j (ll_nek (by decide) hj)).trans (ho1 j (ll_nek (by decide) hj)))))⟩

set_option maxRecDepth 20000 in
set_option maxHeartbeats 2000000 in
theorem ct_X2_draw {G : jd_G} {β : ll_B} {κ : ll_K} {h : jd_H} (hw : WC G β κ h)  : jd_Ct G mX2_draw 0 (0) (0) [.ref (β 0 1), .int (10)] h (jd_ef G β (k_draw κ) h (some (.int (jd_rem (rNext κ) 10)))) jd_no := by
  have hnone := True.intro
  refine jd_ct (ls := [some (.ref (β 0 1)), some (.int (10)), none]) rfl rfl (by decide) (Nat.le_of_ble_eq_true rfl) rfl ?_
  refine jd_aload_n dX2_draw_0 rfl ?_
  refine jd_get in_X2 ((w_row hw)) 0 q167 dX2_draw_1 rfl (Nat.le_of_ble_eq_true rfl) rfl ?_
  refine jd_istore_n (ls' := [_, _, _]) dX2_draw_4 (Nat.le_of_ble_eq_true rfl) rfl rfl ?_
  refine jd_aload_n dX2_draw_5 rfl ?_
  refine jd_bipush (v := 21) dX2_draw_6 (by decide) ?_
  refine jd_aload_n dX2_draw_8 rfl ?_
  refine jd_get in_X2 ((w_row hw)) 0 q167 dX2_draw_9 rfl (Nat.le_of_ble_eq_true rfl) rfl ?_
  refine jd_imul dX2_draw_12 ?_
  refine jd_bipush (v := 11) dX2_draw_13 (by decide) ?_
  refine jd_iadd dX2_draw_15 ?_
  refine jd_sipush (v := 4096) dX2_draw_16 (by decide) ?_
  refine jd_irem dX2_draw_19 (by decide) ?_
  refine jd_put (fs' := [_, _]) in_X2 tyX2_ok nmX2 ((w_row hw)) 0 q167 dX2_draw_20 rfl (Nat.le_of_ble_eq_true rfl) rfl rfl rfl (Nat.le_of_ble_eq_true rfl) rfl ?_
  refine jd_updG (fun h1 hs1 ho1 => ?_)
  have hw1 := wu_rNext hw (v := (jd_rem (((21 * (rNext κ)) + 11)) (4096))) hs1 ho1
  refine jd_aload_n dX2_draw_23 rfl ?_
  refine jd_dup dX2_draw_24 rfl ?_
  refine jd_get in_X2 ((w_row hw1)) 1 q168 dX2_draw_25 rfl (Nat.le_of_ble_eq_true rfl) rfl ?_
  refine jd_iconst (v := 1) dX2_draw_28 (by decide) ?_
  refine jd_iadd dX2_draw_29 ?_
  refine jd_put (fs' := [_, _]) in_X2 tyX2_ok nmX2 ((w_row hw1)) 1 q168 dX2_draw_30 rfl (Nat.le_of_ble_eq_true rfl) rfl rfl rfl (Nat.le_of_ble_eq_true rfl) rfl ?_
  refine jd_updG (fun h2 hs2 ho2 => ?_)
  have hw2 := wu_rDrawn hw1 (v := ((rDrawn (ll_sz κ 6 3 ((jd_rem (((21 * (rNext κ)) + 11)) (4096))))) + 1)) hs2 ho2
  refine jd_iload_n dX2_draw_33 rfl ?_
  refine jd_iload_n dX2_draw_34 rfl ?_
  refine jd_irem dX2_draw_35 (by decide) ?_
  exact jd_iret dX2_draw_36 rfl ⟨rfl, hw2, (fun j hj => ((ho2 j (ll_nek (by decide) hj)).trans (ho1 j (ll_nek (by decide) hj))))⟩

set_option maxRecDepth 20000 in
set_option maxHeartbeats 2000000 in
theorem ct_X1_hide {G : jd_G} {β : ll_B} {κ : ll_K} {h : jd_H} (hw : WC G β κ h) (s p : Nat) (hs : s < nS κ) (hp : p < nP κ) (h40 : (hids κ).length ≤ 40) (h12 : nS κ ≤ 12) (h8 : pDream κ p < 8) (h99 : nNight κ ≤ 99) : jd_Ct G mX1_hide 11 (2) (80) [.ref (β 0 0), .ref (β 5 s), .ref (β 8 p)] h (jd_eh G β (k_hide κ s p) h none) jd_no := by
  obtain ⟨mcH, hlH⟩ := w_hidings hw
  refine jd_ct (ls := [some (.ref (β 0 0)), some (.ref (β 5 s)), some (.ref (β 8 p))]) rfl rfl (by decide) (Nat.le_of_ble_eq_true rfl) rfl ?_
  refine jd_aload_n dX1_hide_0 rfl ?_
  refine jd_aload_n dX1_hide_1 rfl ?_
  refine jd_getN in_X9 (((w_sleeper hw)) s (show s < nS κ by omega)) 0 q849 dX1_hide_2 rfl (Nat.le_of_ble_eq_true rfl) rfl ?_
  refine jd_putN (fs' := [_, _, _, _, _, _, _]) in_X11 tyX11_ok nmX11 (((w_part hw)) p (show p < nP κ by omega)) 6 q914 dX1_hide_5 rfl (Nat.le_of_ble_eq_true rfl) rfl rfl rfl (Nat.le_of_ble_eq_true rfl) rfl ?_
  refine jd_updG (fun h1 hs1 ho1 => ?_)
  have hw1 := wu_pBy hw (k := p) (show p < nP κ by omega) (v := some s) hs1 ho1
  refine jd_aload_n dX1_hide_8 rfl ?_
  refine jd_get in_X1 ((w_this hw1)) 4 q287 dX1_hide_9 rfl (Nat.le_of_ble_eq_true rfl) rfl ?_
  obtain ⟨mcl2, hl2_⟩ := w_hidings hw1
  refine jd_pF (n := 0) (As := []) (rest := []) (ct_J2_size hl2_ (show (hids κ).length ≤ 900 by omega)) (jd_rv hl2_ 15 rfl rfl) (ci := 15) rfl (List.mem_of_getElem? (i := 2) rfl) rfl q339 q342 q344 q83 q346 q341 q345 q343 q207 ⟨by decide, by decide, by decide +kernel⟩ dX1_hide_12 rfl rfl (Nat.le_of_ble_eq_true rfl) ⟨(Nat.le_of_ble_eq_true rfl), (Nat.le_of_ble_eq_true rfl)⟩ ?_
  refine jd_bipush (v := 40) dX1_hide_17 (by decide) ?_
  refine jd_ncmp_ge (a := (hids κ).length) (b := 40) (tgt := 51) dX1_hide_19 (by decide) (by omega) (by omega) (fun z3 => ?_) (fun z4 => ?_)
  · exact jd_vret dX1_hide_51 rfl ⟨rfl, ⟨β 9, by rw [k_hide, if_neg (by omega), ll_b9_id]; exact hw1⟩, (fun j hj => (ho1 j (ll_nek (by decide) hj)))⟩
  · refine jd_aload_n dX1_hide_22 rfl ?_
    refine jd_get in_X1 ((w_this hw1)) 4 q287 dX1_hide_23 rfl (Nat.le_of_ble_eq_true rfl) rfl ?_
    refine jd_new (fs := [.int (0), .int (0), .int (0)]) in_X14 tyX14_ok q548 q1053 q121 dX1_hide_26 7 rfl rfl (by omega) (by omega) (fun qp hqp => ?_)
    refine jd_dup dX1_hide_29 rfl ?_
    refine jd_aload_n dX1_hide_30 rfl ?_
    refine jd_getN in_X9 (jd_tmp (((w_sleeper hw1)) s (show s < nS κ by omega))) 0 q849 dX1_hide_31 rfl (Nat.le_of_ble_eq_true rfl) rfl ?_
    refine jd_aload_n dX1_hide_34 rfl ?_
    refine jd_getN in_X11 (jd_tmp (((w_part hw1)) p (show p < nP κ by omega))) 0 q902 dX1_hide_35 rfl (Nat.le_of_ble_eq_true rfl) rfl ?_
    refine jd_aload_n dX1_hide_38 rfl ?_
    refine jd_get in_X1 (jd_tmp ((w_this hw1))) 6 q289 dX1_hide_39 rfl (Nat.le_of_ble_eq_true rfl) rfl ?_
    refine jd_callI (As := [.int (nI s), .int (nI ((pDream (ll_so κ 3 p (some s)) p))), .int (nI ((nNight (ll_so κ 3 p (some s)))))]) (rest := [.ref (qp), .ref (β 0 6)]) (ct_X14_init jd_up_s (nI s) (nI ((pDream (ll_so κ 3 p (some s)) p))) (nI ((nNight (ll_so κ 3 p (some s)))))) rfl rfl q1054 q1055 q121 q1056 nX14_init dX1_hide_42 rfl rfl (Nat.le_of_ble_eq_true rfl) ⟨(Nat.le_of_ble_eq_true rfl), (Nat.le_of_ble_eq_true rfl), by omega, by omega⟩ (fun rv4 hn4 hq4 => ?_) jd_nox
    obtain ⟨rfl, he4⟩ := hq4
    rw [he4, jd_up_up]
    refine jd_callF (n := 1) (As := [.ref (qp)]) (rest := []) (ct_J2_add (n := (hids κ).length) (jd_tmp hl2_) (show (hids κ).length ≤ 600 by omega) (Cn := "Lullabygate$Hiding") q2030 (fun k hk => obT hqp (Or.inl ⟨_, _, 7, _, w_hid hw1 k hk, rfl, rfl, rfl⟩)) (Or.inl ⟨(0, qp), _, 7, _, jd_up_s, rfl, rfl, rfl⟩)) (jd_rv (jd_tmp hl2_) 15 rfl rfl) (ci := 15) rfl (List.mem_of_getElem? (i := 0) rfl) rfl q204 q208 q210 q83 q212 q206 q211 q209 q207 ⟨by decide, by decide, by decide +kernel⟩ dX1_hide_45 rfl rfl (Nat.le_of_ble_eq_true rfl) ⟨(Nat.le_of_ble_eq_true rfl), (Nat.le_of_ble_eq_true rfl), by omega, by omega⟩ (fun rv5 hn5 hq5 => ?_) jd_nox
    obtain ⟨rfl, he5⟩ := hq5
    rw [he5]
    refine jd_gen (fun h3 => WC G (ll_bu β 9 (hids κ).length qp) (k_addH (ll_so κ 3 p (some s)) s (pDream κ p) (nNight κ)) h3 ∧ ∀ j : jd_Id, 20 ≤ j.1 → h3 j = h1 j) ⟨wu_addH hw1 hqp ((jd_up_n (by intro z; cases z)).trans jd_up_s) ⟨_, jd_up_s⟩ (fun j a b => (jd_up_n b).trans (jd_up_n a)), fun j hj => (jd_up_n (ll_nek (by decide) hj)).trans (jd_up_n (ll_nek (by decide) hj))⟩ (fun h3 hw3 => ?_)
    obtain ⟨hw4, hfr⟩ := hw3
    refine jd_pop dX1_hide_50 rfl ?_
    exact jd_vret dX1_hide_51 rfl ⟨rfl, ⟨_, by rw [k_hide, if_pos (by omega), ← ll_bu9]; exact hw4⟩, (fun j hj => ((hfr j hj).trans (ho1 j (ll_nek (by decide) hj))))⟩
