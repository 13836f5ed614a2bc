/-! the component: questions (printed by mk_c.py) -/
set_option maxRecDepth 20000 in
set_option maxHeartbeats 2000000 in
theorem ct_X1_mustBeIn {G : jd_G} {h : jd_H} (x lo hi : Int32) : jd_Ct G mX1_mustBeIn 11 (1) (6) [.int (x), .int (lo), .int (hi)] h (fun v h2 => (inR x lo hi) ∧ v = none ∧ h2 = h) (fun E h2 => ¬ (inR x lo hi) ∧ E = "java/lang/IllegalArgumentException" ∧ h2 = h) := by
  refine jd_ct (ls := [some (.int (x)), some (.int (lo)), some (.int (hi))]) rfl rfl (by decide) (Nat.le_of_ble_eq_true rfl) rfl ?_
  refine jd_iload_n dX1_mustBeIn_0 rfl ?_
  refine jd_iload_n dX1_mustBeIn_1 rfl ?_
  refine jd_mg2 15 (.int (jd_b ((¬ (x < lo) ∧ (¬ (hi < x)))))) (fun hj1 => ?_) ?_
  · refine jd_icmp_lt (tgt := 14) dX1_mustBeIn_2 (by decide) (fun z2 => ?_) (fun z3 => ?_)
    · refine jd_iconst (v := 0) dX1_mustBeIn_14 (by decide) ?_
      exact jd_top (congrArg Value.int (jd_b0 (fun w => w.1 z2)).symm) hj1
    · refine jd_iload_n dX1_mustBeIn_5 rfl ?_
      refine jd_iload_n dX1_mustBeIn_6 rfl ?_
      refine jd_icmp_gt (tgt := 14) dX1_mustBeIn_7 (by decide) (fun z4 => ?_) (fun z5 => ?_)
      · refine jd_iconst (v := 0) dX1_mustBeIn_14 (by decide) ?_
        exact jd_top (congrArg Value.int (jd_b0 (fun w => (fun w => w z4) w.2)).symm) hj1
      · refine jd_iconst (v := 1) dX1_mustBeIn_10 (by decide) ?_
        refine jd_goto (tgt := 15) dX1_mustBeIn_11 (by decide) ?_
        exact jd_top (congrArg Value.int (jd_b1 ⟨z3, z5⟩).symm) hj1
  · refine jd_callS (As := [.int (jd_b ((¬ (x < lo) ∧ (¬ (hi < x)))))]) (rest := []) (ct_X1_must ((¬ (x < lo) ∧ (¬ (hi < x))))) rfl q721 q722 q80 q723 nX1_must dX1_mustBeIn_15 rfl rfl (Nat.le_of_ble_eq_true rfl) ⟨(Nat.le_of_ble_eq_true rfl), (Nat.le_of_ble_eq_true rfl), by omega, by omega⟩ (fun rv5 hn5 hq5 => ?_) (fun E h2 hx => jd_xout rfl (by obtain ⟨h3, h4, h5⟩ := hx; exact ⟨h3, h4, h5⟩))
    obtain ⟨hb5, rfl, he5⟩ := hq5
    rw [he5]
    exact jd_vret dX1_mustBeIn_18 rfl ⟨hb5, rfl, rfl⟩

set_option maxRecDepth 20000 in
set_option maxHeartbeats 2000000 in
theorem ct_X1_landAt {G : jd_G} {β : ll_B} {κ : ll_K} {h : jd_H} (hw : WC G β κ h) (hI : ll_I κ) (x : Int32) : jd_Ct G mX1_landAt 11 (1) (6) [.ref (β 0 0), .int (x)] h (fun v h2 => inN x 6 ∧ ∃ k, k < 6 ∧ x = nI k ∧ v = some (.ref (β 1 k)) ∧ h2 = h) (fun E h2 => ¬ (inN x 6) ∧ E = "java/lang/IndexOutOfBoundsException" ∧ h2 = h) := by
  obtain ⟨⟨hG8, hS12, hP24, hH40, hN99, hH24⟩, hIg, hIs, hIp, hIh, hIl, hIq⟩ := id hI
  obtain ⟨mcL, hlL⟩ := w_lands hw
  obtain ⟨mcG, hlG⟩ := w_gates hw
  obtain ⟨mcS, hlS⟩ := w_sleepers hw
  obtain ⟨mcP, hlP⟩ := w_parts hw
  obtain ⟨mcH, hlH⟩ := w_hidings hw
  refine jd_ct (ls := [some (.ref (β 0 0)), some (.int (x))]) rfl rfl (by decide) (Nat.le_of_ble_eq_true rfl) rfl ?_
  refine jd_iload_n dX1_landAt_0 rfl ?_
  refine jd_bipush (v := 6) dX1_landAt_1 (by decide) ?_
  refine jd_callS (As := [.int (x), .int (6)]) (rest := []) (ct_X1_checkPlace (x) (6)) rfl q694 q695 q80 q696 nX1_checkPlace dX1_landAt_3 rfl rfl (Nat.le_of_ble_eq_true rfl) ⟨(Nat.le_of_ble_eq_true rfl), (Nat.le_of_ble_eq_true rfl), by omega, by omega⟩ (fun rv0 hn0 hq0 => ?_) (fun E h2 hx => jd_xout rfl (by obtain ⟨h3, h4, h5⟩ := hx; exact ⟨h3, h4, h5⟩))
  obtain ⟨hb0, rfl, he0⟩ := hq0
  rw [he0]
  obtain ⟨k, hk, rfl⟩ := inN_ex (by decide) hb0
  refine jd_aload_n dX1_landAt_6 rfl ?_
  refine jd_get in_X1 ((w_this hw)) 0 q283 dX1_landAt_7 rfl (Nat.le_of_ble_eq_true rfl) rfl ?_
  refine jd_iload_n dX1_landAt_10 rfl ?_
  refine jd_pF (n := 1) (As := [.int (nI k)]) (rest := []) (ct_J2_get hlL (show 6 ≤ 900 by omega) (k := k) (show k < 6 by omega)) (jd_rv hlL 15 rfl rfl) (ci := 15) rfl (List.mem_of_getElem? (i := 1) rfl) rfl q320 q323 q325 q83 q327 q322 q326 q324 q207 ⟨by decide, by decide, by decide +kernel⟩ dX1_landAt_11 rfl rfl (Nat.le_of_ble_eq_true rfl) ⟨(Nat.le_of_ble_eq_true rfl), (Nat.le_of_ble_eq_true rfl)⟩ ?_
  refine jd_castS (jd_rv (((w_land hw)) k (show k < 6 by omega)) 2 rfl rfl) (ci := 2) rfl q175 dX1_landAt_16 ?_
  exact jd_aret dX1_landAt_19 (Or.inl ⟨_, rfl⟩) ⟨hb0, k, hk, rfl, rfl, rfl⟩

set_option maxRecDepth 20000 in
set_option maxHeartbeats 2000000 in
theorem ct_X1_gateAt {G : jd_G} {β : ll_B} {κ : ll_K} {h : jd_H} (hw : WC G β κ h) (hI : ll_I κ) (x : Int32) : jd_Ct G mX1_gateAt 11 (1) (6) [.ref (β 0 0), .int (x)] h (fun v h2 => inN x (nG κ) ∧ ∃ k, k < (nG κ) ∧ x = nI k ∧ v = some (.ref (β 2 k)) ∧ h2 = h) (fun E h2 => ¬ (inN x (nG κ)) ∧ E = "java/lang/IndexOutOfBoundsException" ∧ h2 = h) := by
  obtain ⟨⟨hG8, hS12, hP24, hH40, hN99, hH24⟩, hIg, hIs, hIp, hIh, hIl, hIq⟩ := id hI
  obtain ⟨mcL, hlL⟩ := w_lands hw
  obtain ⟨mcG, hlG⟩ := w_gates hw
  obtain ⟨mcS, hlS⟩ := w_sleepers hw
  obtain ⟨mcP, hlP⟩ := w_parts hw
  obtain ⟨mcH, hlH⟩ := w_hidings hw
  refine jd_ct (ls := [some (.ref (β 0 0)), some (.int (x))]) rfl rfl (by decide) (Nat.le_of_ble_eq_true rfl) rfl ?_
  refine jd_iload_n dX1_gateAt_0 rfl ?_
  refine jd_aload_n dX1_gateAt_1 rfl ?_
  refine jd_get in_X1 ((w_this hw)) 1 q284 dX1_gateAt_2 rfl (Nat.le_of_ble_eq_true rfl) rfl ?_
  refine jd_pF (n := 0) (As := []) (rest := [.int (x)]) (ct_J2_size hlG (show nG κ ≤ 900 by omega)) (jd_rv hlG 15 rfl rfl) (ci := 15) rfl (List.mem_of_getElem? (i := 2) rfl) rfl q339 q342 q344 q83 q346 q341 q345 q343 q207 ⟨by decide, by decide, by decide +kernel⟩ dX1_gateAt_5 rfl rfl (Nat.le_of_ble_eq_true rfl) ⟨(Nat.le_of_ble_eq_true rfl), (Nat.le_of_ble_eq_true rfl)⟩ ?_
  refine jd_callS (As := [.int (x), .int (nI (nG κ))]) (rest := []) (ct_X1_checkPlace (x) (nI (nG κ))) rfl q694 q695 q80 q696 nX1_checkPlace dX1_gateAt_10 rfl rfl (Nat.le_of_ble_eq_true rfl) ⟨(Nat.le_of_ble_eq_true rfl), (Nat.le_of_ble_eq_true rfl), by omega, by omega⟩ (fun rv0 hn0 hq0 => ?_) (fun E h2 hx => jd_xout rfl (by obtain ⟨h3, h4, h5⟩ := hx; exact ⟨h3, h4, h5⟩))
  obtain ⟨hb0, rfl, he0⟩ := hq0
  rw [he0]
  obtain ⟨k, hk, rfl⟩ := inN_ex (by omega) hb0
  refine jd_aload_n dX1_gateAt_13 rfl ?_
  refine jd_get in_X1 ((w_this hw)) 1 q284 dX1_gateAt_14 rfl (Nat.le_of_ble_eq_true rfl) rfl ?_
  refine jd_iload_n dX1_gateAt_17 rfl ?_
  refine jd_pF (n := 1) (As := [.int (nI k)]) (rest := []) (ct_J2_get hlG (show nG κ ≤ 900 by omega) (k := k) (show k < nG κ by omega)) (jd_rv hlG 15 rfl rfl) (ci := 15) rfl (List.mem_of_getElem? (i := 1) rfl) rfl q320 q323 q325 q83 q327 q322 q326 q324 q207 ⟨by decide, by decide, by decide +kernel⟩ dX1_gateAt_18 rfl rfl (Nat.le_of_ble_eq_true rfl) ⟨(Nat.le_of_ble_eq_true rfl), (Nat.le_of_ble_eq_true rfl)⟩ ?_
  refine jd_castS (jd_rv (((w_gate hw)) k (show k < nG κ by omega)) 3 rfl rfl) (ci := 3) rfl q347 dX1_gateAt_23 ?_
  exact jd_aret dX1_gateAt_26 (Or.inl ⟨_, rfl⟩) ⟨hb0, k, hk, rfl, rfl, rfl⟩

set_option maxRecDepth 20000 in
set_option maxHeartbeats 2000000 in
theorem ct_X1_sleeperAt {G : jd_G} {β : ll_B} {κ : ll_K} {h : jd_H} (hw : WC G β κ h) (hI : ll_I κ) (x : Int32) : jd_Ct G mX1_sleeperAt 11 (1) (6) [.ref (β 0 0), .int (x)] h (fun v h2 => inN x (nS κ) ∧ ∃ k, k < (nS κ) ∧ x = nI k ∧ v = some (.ref (β 5 k)) ∧ h2 = h) (fun E h2 => ¬ (inN x (nS κ)) ∧ E = "java/lang/IndexOutOfBoundsException" ∧ h2 = h) := by
  obtain ⟨⟨hG8, hS12, hP24, hH40, hN99, hH24⟩, hIg, hIs, hIp, hIh, hIl, hIq⟩ := id hI
  obtain ⟨mcL, hlL⟩ := w_lands hw
  obtain ⟨mcG, hlG⟩ := w_gates hw
  obtain ⟨mcS, hlS⟩ := w_sleepers hw
  obtain ⟨mcP, hlP⟩ := w_parts hw
  obtain ⟨mcH, hlH⟩ := w_hidings hw
  refine jd_ct (ls := [some (.ref (β 0 0)), some (.int (x))]) rfl rfl (by decide) (Nat.le_of_ble_eq_true rfl) rfl ?_
  refine jd_iload_n dX1_sleeperAt_0 rfl ?_
  refine jd_aload_n dX1_sleeperAt_1 rfl ?_
  refine jd_get in_X1 ((w_this hw)) 2 q285 dX1_sleeperAt_2 rfl (Nat.le_of_ble_eq_true rfl) rfl ?_
  refine jd_pF (n := 0) (As := []) (rest := [.int (x)]) (ct_J2_size hlS (show nS κ ≤ 900 by omega)) (jd_rv hlS 15 rfl rfl) (ci := 15) rfl (List.mem_of_getElem? (i := 2) rfl) rfl q339 q342 q344 q83 q346 q341 q345 q343 q207 ⟨by decide, by decide, by decide +kernel⟩ dX1_sleeperAt_5 rfl rfl (Nat.le_of_ble_eq_true rfl) ⟨(Nat.le_of_ble_eq_true rfl), (Nat.le_of_ble_eq_true rfl)⟩ ?_
  refine jd_callS (As := [.int (x), .int (nI (nS κ))]) (rest := []) (ct_X1_checkPlace (x) (nI (nS κ))) rfl q694 q695 q80 q696 nX1_checkPlace dX1_sleeperAt_10 rfl rfl (Nat.le_of_ble_eq_true rfl) ⟨(Nat.le_of_ble_eq_true rfl), (Nat.le_of_ble_eq_true rfl), by omega, by omega⟩ (fun rv0 hn0 hq0 => ?_) (fun E h2 hx => jd_xout rfl (by obtain ⟨h3, h4, h5⟩ := hx; exact ⟨h3, h4, h5⟩))
  obtain ⟨hb0, rfl, he0⟩ := hq0
  rw [he0]
  obtain ⟨k, hk, rfl⟩ := inN_ex (by omega) hb0
  refine jd_aload_n dX1_sleeperAt_13 rfl ?_
  refine jd_get in_X1 ((w_this hw)) 2 q285 dX1_sleeperAt_14 rfl (Nat.le_of_ble_eq_true rfl) rfl ?_
  refine jd_iload_n dX1_sleeperAt_17 rfl ?_
  refine jd_pF (n := 1) (As := [.int (nI k)]) (rest := []) (ct_J2_get hlS (show nS κ ≤ 900 by omega) (k := k) (show k < nS κ by omega)) (jd_rv hlS 15 rfl rfl) (ci := 15) rfl (List.mem_of_getElem? (i := 1) rfl) rfl q320 q323 q325 q83 q327 q322 q326 q324 q207 ⟨by decide, by decide, by decide +kernel⟩ dX1_sleeperAt_18 rfl rfl (Nat.le_of_ble_eq_true rfl) ⟨(Nat.le_of_ble_eq_true rfl), (Nat.le_of_ble_eq_true rfl)⟩ ?_
  refine jd_castS (jd_rv (((w_sleeper hw)) k (show k < nS κ by omega)) 4 rfl rfl) (ci := 4) rfl q352 dX1_sleeperAt_23 ?_
  exact jd_aret dX1_sleeperAt_26 (Or.inl ⟨_, rfl⟩) ⟨hb0, k, hk, rfl, rfl, rfl⟩

set_option maxRecDepth 20000 in
set_option maxHeartbeats 2000000 in
theorem ct_X1_partAt {G : jd_G} {β : ll_B} {κ : ll_K} {h : jd_H} (hw : WC G β κ h) (hI : ll_I κ) (x : Int32) : jd_Ct G mX1_partAt 11 (1) (6) [.ref (β 0 0), .int (x)] h (fun v h2 => inN x (nP κ) ∧ ∃ k, k < (nP κ) ∧ x = nI k ∧ v = some (.ref (β 8 k)) ∧ h2 = h) (fun E h2 => ¬ (inN x (nP κ)) ∧ E = "java/lang/IndexOutOfBoundsException" ∧ h2 = h) := by
  obtain ⟨⟨hG8, hS12, hP24, hH40, hN99, hH24⟩, hIg, hIs, hIp, hIh, hIl, hIq⟩ := id hI
  obtain ⟨mcL, hlL⟩ := w_lands hw
  obtain ⟨mcG, hlG⟩ := w_gates hw
  obtain ⟨mcS, hlS⟩ := w_sleepers hw
  obtain ⟨mcP, hlP⟩ := w_parts hw
  obtain ⟨mcH, hlH⟩ := w_hidings hw
  refine jd_ct (ls := [some (.ref (β 0 0)), some (.int (x))]) rfl rfl (by decide) (Nat.le_of_ble_eq_true rfl) rfl ?_
  refine jd_iload_n dX1_partAt_0 rfl ?_
  refine jd_aload_n dX1_partAt_1 rfl ?_
  refine jd_get in_X1 ((w_this hw)) 3 q286 dX1_partAt_2 rfl (Nat.le_of_ble_eq_true rfl) rfl ?_
  refine jd_pF (n := 0) (As := []) (rest := [.int (x)]) (ct_J2_size hlP (show nP κ ≤ 900 by omega)) (jd_rv hlP 15 rfl rfl) (ci := 15) rfl (List.mem_of_getElem? (i := 2) rfl) rfl q339 q342 q344 q83 q346 q341 q345 q343 q207 ⟨by decide, by decide, by decide +kernel⟩ dX1_partAt_5 rfl rfl (Nat.le_of_ble_eq_true rfl) ⟨(Nat.le_of_ble_eq_true rfl), (Nat.le_of_ble_eq_true rfl)⟩ ?_
  refine jd_callS (As := [.int (x), .int (nI (nP κ))]) (rest := []) (ct_X1_checkPlace (x) (nI (nP κ))) rfl q694 q695 q80 q696 nX1_checkPlace dX1_partAt_10 rfl rfl (Nat.le_of_ble_eq_true rfl) ⟨(Nat.le_of_ble_eq_true rfl), (Nat.le_of_ble_eq_true rfl), by omega, by omega⟩ (fun rv0 hn0 hq0 => ?_) (fun E h2 hx => jd_xout rfl (by obtain ⟨h3, h4, h5⟩ := hx; exact ⟨h3, h4, h5⟩))
  obtain ⟨hb0, rfl, he0⟩ := hq0
  rw [he0]
  obtain ⟨k, hk, rfl⟩ := inN_ex (by omega) hb0
  refine jd_aload_n dX1_partAt_13 rfl ?_
  refine jd_get in_X1 ((w_this hw)) 3 q286 dX1_partAt_14 rfl (Nat.le_of_ble_eq_true rfl) rfl ?_
  refine jd_iload_n dX1_partAt_17 rfl ?_
  refine jd_pF (n := 1) (As := [.int (nI k)]) (rest := []) (ct_J2_get hlP (show nP κ ≤ 900 by omega) (k := k) (show k < nP κ by omega)) (jd_rv hlP 15 rfl rfl) (ci := 15) rfl (List.mem_of_getElem? (i := 1) rfl) rfl q320 q323 q325 q83 q327 q322 q326 q324 q207 ⟨by decide, by decide, by decide +kernel⟩ dX1_partAt_18 rfl rfl (Nat.le_of_ble_eq_true rfl) ⟨(Nat.le_of_ble_eq_true rfl), (Nat.le_of_ble_eq_true rfl)⟩ ?_
  refine jd_castS (jd_rv (((w_part hw)) k (show k < nP κ by omega)) 5 rfl rfl) (ci := 5) rfl q377 dX1_partAt_23 ?_
  exact jd_aret dX1_partAt_26 (Or.inl ⟨_, rfl⟩) ⟨hb0, k, hk, rfl, rfl, rfl⟩

set_option maxRecDepth 20000 in
set_option maxHeartbeats 2000000 in
theorem ct_X1_ofLand {G : jd_G} {β : ll_B} {κ : ll_K} {h : jd_H} (hw : WC G β κ h) (hI : ll_I κ) (l : Int32) (w : Int32) : jd_Ct G mX1_ofLand 12 (4) (24) [.ref (β 0 0), .int (l), .int (w)] h (jd_an h (c_ofLand l w) (.int (landVal κ (tN l) (tN w)))) (jd_th h (c_ofLand l w) nmA) := by
  obtain ⟨⟨hG8, hS12, hP24, hH40, hN99, hH24⟩, hIg, hIs, hIp, hIh, hIl, hIq⟩ := id hI
  obtain ⟨mcL, hlL⟩ := w_lands hw
  obtain ⟨mcG, hlG⟩ := w_gates hw
  obtain ⟨mcS, hlS⟩ := w_sleepers hw
  obtain ⟨mcP, hlP⟩ := w_parts hw
  obtain ⟨mcH, hlH⟩ := w_hidings hw
  refine jd_ct (ls := [some (.ref (β 0 0)), some (.int (l)), some (.int (w))]) rfl rfl (by decide) (Nat.le_of_ble_eq_true rfl) rfl ?_
  refine jd_aload_n dX1_ofLand_0 rfl ?_
  refine jd_iload_n dX1_ofLand_1 rfl ?_
  refine jd_callV (As := [.int (l)]) (rest := []) (ct_X1_landAt hw hI (l)) (jd_rv ((w_this hw)) 0 rfl rfl) rfl q690 q692 qs35 q80 q693 nX1_landAt dX1_ofLand_2 rfl rfl rfl (Nat.le_of_ble_eq_true rfl) ⟨(Nat.le_of_ble_eq_true rfl), (Nat.le_of_ble_eq_true rfl), by omega, by omega⟩ (fun rv0 hn0 hq0 => ?_) (fun E h2 hx => by obtain ⟨h3, h4, h5⟩ := hx; subst h5; have hx : ¬ _ ∧ True := ⟨h3, trivial⟩; exact jd_xout rfl (jd_th.mk (k := 1) (by unfold c_ofLand; rw [if_neg hx.1]) (by decide) h4))
  obtain ⟨hb0, k_l, hk_l, rfl, rfl, he0⟩ := hq0
  rw [he0]
  have hT_l := tN_nI (show k_l < 2 ^ 31 by omega)
  refine jd_pop dX1_ofLand_5 rfl ?_
  refine jd_iload_n dX1_ofLand_6 rfl ?_
  refine jd_iconst (v := 0) dX1_ofLand_7 (by decide) ?_
  refine jd_bipush (v := 8) dX1_ofLand_8 (by decide) ?_
  refine jd_callS (As := [.int (w), .int (0), .int (8)]) (rest := []) (ct_X1_mustBeIn (w) (0) (8)) rfl q718 q719 q80 q720 nX1_mustBeIn dX1_ofLand_10 rfl rfl (Nat.le_of_ble_eq_true rfl) ⟨(Nat.le_of_ble_eq_true rfl), (Nat.le_of_ble_eq_true rfl), by omega, by omega⟩ (fun rv1 hn1 hq1 => ?_) (fun E h2 hx => by obtain ⟨h3, h4, h5⟩ := hx; subst h5; have hx : ¬ _ ∧ True := ⟨h3, trivial⟩; exact jd_xout rfl (jd_th.mk (k := 2) (by unfold c_ofLand; (try simp only [hT_l]); rw [if_pos hb0, if_neg hx.1]) (by decide) h4))
  obtain ⟨hb1, rfl, he1⟩ := hq1
  rw [he1]
  obtain ⟨k_w, hk_w, rfl⟩ := inR_ex (lo := 0) (hi := 8) hb1 (by omega) (by omega)
  have hT_w := tN_nI (show k_w < 2 ^ 31 by omega)
  refine jd_aload_n dX1_ofLand_13 rfl ?_
  refine jd_iload_n dX1_ofLand_14 rfl ?_
  refine jd_iload_n dX1_ofLand_15 rfl ?_
  refine jd_pV (As := [.int (nI k_l), .int (nI k_w)]) (rest := []) (ct_X1_landNow hw hI (k_l) (by omega) (k_w) (by omega)) (jd_rv ((w_this hw)) 0 rfl rfl) rfl q429 q431 qs11 q80 q432 nX1_landNow dX1_ofLand_16 rfl rfl rfl (Nat.le_of_ble_eq_true rfl) ⟨(Nat.le_of_ble_eq_true rfl), (Nat.le_of_ble_eq_true rfl)⟩ ?_
  exact jd_iret dX1_ofLand_19 rfl ⟨by unfold c_ofLand; rw [if_pos hb0, if_pos hb1], by first | (rw [tN_nI (show k_l < 2 ^ 31 by omega), tN_nI (show k_w < 2 ^ 31 by omega)]; done) | (rw [tN_nI (show k_l < 2 ^ 31 by omega), tN_nI (show k_w < 2 ^ 31 by omega)]; rfl), rfl⟩

set_option maxRecDepth 20000 in
set_option maxHeartbeats 2000000 in
theorem ct_X1_ofGate {G : jd_G} {β : ll_B} {κ : ll_K} {h : jd_H} (hw : WC G β κ h) (hI : ll_I κ) (g : Int32) (w : Int32) : jd_Ct G mX1_ofGate 12 (4) (24) [.ref (β 0 0), .int (g), .int (w)] h (jd_an h (c_ofGate κ g w) (.int (gateVal κ (tN g) (tN w)))) (jd_th h (c_ofGate κ g w) nmA) := by
  obtain ⟨⟨hG8, hS12, hP24, hH40, hN99, hH24⟩, hIg, hIs, hIp, hIh, hIl, hIq⟩ := id hI
  obtain ⟨mcL, hlL⟩ := w_lands hw
  obtain ⟨mcG, hlG⟩ := w_gates hw
  obtain ⟨mcS, hlS⟩ := w_sleepers hw
  obtain ⟨mcP, hlP⟩ := w_parts hw
  obtain ⟨mcH, hlH⟩ := w_hidings hw
  refine jd_ct (ls := [some (.ref (β 0 0)), some (.int (g)), some (.int (w))]) rfl rfl (by decide) (Nat.le_of_ble_eq_true rfl) rfl ?_
  refine jd_aload_n dX1_ofGate_0 rfl ?_
  refine jd_iload_n dX1_ofGate_1 rfl ?_
  refine jd_callV (As := [.int (g)]) (rest := []) (ct_X1_gateAt hw hI (g)) (jd_rv ((w_this hw)) 0 rfl rfl) rfl q818 q820 qs36 q80 q821 nX1_gateAt dX1_ofGate_2 rfl rfl rfl (Nat.le_of_ble_eq_true rfl) ⟨(Nat.le_of_ble_eq_true rfl), (Nat.le_of_ble_eq_true rfl), by omega, by omega⟩ (fun rv0 hn0 hq0 => ?_) (fun E h2 hx => by obtain ⟨h3, h4, h5⟩ := hx; subst h5; have hx : ¬ _ ∧ True := ⟨h3, trivial⟩; exact jd_xout rfl (jd_th.mk (k := 1) (by unfold c_ofGate; rw [if_neg hx.1]) (by decide) h4))
  obtain ⟨hb0, k_g, hk_g, rfl, rfl, he0⟩ := hq0
  rw [he0]
  have hT_g := tN_nI (show k_g < 2 ^ 31 by omega)
  refine jd_pop dX1_ofGate_5 rfl ?_
  refine jd_iload_n dX1_ofGate_6 rfl ?_
  refine jd_iconst (v := 0) dX1_ofGate_7 (by decide) ?_
  refine jd_bipush (v := 9) dX1_ofGate_8 (by decide) ?_
  refine jd_callS (As := [.int (w), .int (0), .int (9)]) (rest := []) (ct_X1_mustBeIn (w) (0) (9)) rfl q718 q719 q80 q720 nX1_mustBeIn dX1_ofGate_10 rfl rfl (Nat.le_of_ble_eq_true rfl) ⟨(Nat.le_of_ble_eq_true rfl), (Nat.le_of_ble_eq_true rfl), by omega, by omega⟩ (fun rv1 hn1 hq1 => ?_) (fun E h2 hx => by obtain ⟨h3, h4, h5⟩ := hx; subst h5; have hx : ¬ _ ∧ True := ⟨h3, trivial⟩; exact jd_xout rfl (jd_th.mk (k := 2) (by unfold c_ofGate; (try simp only [hT_g]); rw [if_pos hb0, if_neg hx.1]) (by decide) h4))
  obtain ⟨hb1, rfl, he1⟩ := hq1
  rw [he1]
  obtain ⟨k_w, hk_w, rfl⟩ := inR_ex (lo := 0) (hi := 9) hb1 (by omega) (by omega)
  have hT_w := tN_nI (show k_w < 2 ^ 31 by omega)
  refine jd_aload_n dX1_ofGate_13 rfl ?_
  refine jd_iload_n dX1_ofGate_14 rfl ?_
  refine jd_iload_n dX1_ofGate_15 rfl ?_
  refine jd_pV (As := [.int (nI k_g), .int (nI k_w)]) (rest := []) (ct_X1_gateNow hw hI (k_g) (by omega) (k_w) (by omega)) (jd_rv ((w_this hw)) 0 rfl rfl) rfl q453 q455 qs17 q80 q456 nX1_gateNow dX1_ofGate_16 rfl rfl rfl (Nat.le_of_ble_eq_true rfl) ⟨(Nat.le_of_ble_eq_true rfl), (Nat.le_of_ble_eq_true rfl)⟩ ?_
  exact jd_iret dX1_ofGate_19 rfl ⟨by unfold c_ofGate; rw [if_pos hb0, if_pos hb1], by first | (rw [tN_nI (show k_g < 2 ^ 31 by omega), tN_nI (show k_w < 2 ^ 31 by omega)]; done) | (rw [tN_nI (show k_g < 2 ^ 31 by omega), tN_nI (show k_w < 2 ^ 31 by omega)]; rfl), rfl⟩

set_option maxRecDepth 20000 in
set_option maxHeartbeats 2000000 in
theorem ct_X1_ofSleeper {G : jd_G} {β : ll_B} {κ : ll_K} {h : jd_H} (hw : WC G β κ h) (hI : ll_I κ) (s : Int32) (w : Int32) : jd_Ct G mX1_ofSleeper 12 (4) (24) [.ref (β 0 0), .int (s), .int (w)] h (jd_an h (c_ofSleeper κ s w) (.int (sleeperVal κ (tN s) (tN w)))) (jd_th h (c_ofSleeper κ s w) nmA) := by
  obtain ⟨⟨hG8, hS12, hP24, hH40, hN99, hH24⟩, hIg, hIs, hIp, hIh, hIl, hIq⟩ := id hI
  obtain ⟨mcL, hlL⟩ := w_lands hw
  obtain ⟨mcG, hlG⟩ := w_gates hw
  obtain ⟨mcS, hlS⟩ := w_sleepers hw
  obtain ⟨mcP, hlP⟩ := w_parts hw
  obtain ⟨mcH, hlH⟩ := w_hidings hw
  refine jd_ct (ls := [some (.ref (β 0 0)), some (.int (s)), some (.int (w))]) rfl rfl (by decide) (Nat.le_of_ble_eq_true rfl) rfl ?_
  refine jd_aload_n dX1_ofSleeper_0 rfl ?_
  refine jd_iload_n dX1_ofSleeper_1 rfl ?_
  refine jd_callV (As := [.int (s)]) (rest := []) (ct_X1_sleeperAt hw hI (s)) (jd_rv ((w_this hw)) 0 rfl rfl) rfl q889 q891 qs37 q80 q892 nX1_sleeperAt dX1_ofSleeper_2 rfl rfl rfl (Nat.le_of_ble_eq_true rfl) ⟨(Nat.le_of_ble_eq_true rfl), (Nat.le_of_ble_eq_true rfl), by omega, by omega⟩ (fun rv0 hn0 hq0 => ?_) (fun E h2 hx => by obtain ⟨h3, h4, h5⟩ := hx; subst h5; have hx : ¬ _ ∧ True := ⟨h3, trivial⟩; exact jd_xout rfl (jd_th.mk (k := 1) (by unfold c_ofSleeper; rw [if_neg hx.1]) (by decide) h4))
  obtain ⟨hb0, k_s, hk_s, rfl, rfl, he0⟩ := hq0
  rw [he0]
  have hT_s := tN_nI (show k_s < 2 ^ 31 by omega)
  refine jd_pop dX1_ofSleeper_5 rfl ?_
  refine jd_iload_n dX1_ofSleeper_6 rfl ?_
  refine jd_iconst (v := 0) dX1_ofSleeper_7 (by decide) ?_
  refine jd_bipush (v := 8) dX1_ofSleeper_8 (by decide) ?_
  refine jd_callS (As := [.int (w), .int (0), .int (8)]) (rest := []) (ct_X1_mustBeIn (w) (0) (8)) rfl q718 q719 q80 q720 nX1_mustBeIn dX1_ofSleeper_10 rfl rfl (Nat.le_of_ble_eq_true rfl) ⟨(Nat.le_of_ble_eq_true rfl), (Nat.le_of_ble_eq_true rfl), by omega, by omega⟩ (fun rv1 hn1 hq1 => ?_) (fun E h2 hx => by obtain ⟨h3, h4, h5⟩ := hx; subst h5; have hx : ¬ _ ∧ True := ⟨h3, trivial⟩; exact jd_xout rfl (jd_th.mk (k := 2) (by unfold c_ofSleeper; (try simp only [hT_s]); rw [if_pos hb0, if_neg hx.1]) (by decide) h4))
  obtain ⟨hb1, rfl, he1⟩ := hq1
  rw [he1]
  obtain ⟨k_w, hk_w, rfl⟩ := inR_ex (lo := 0) (hi := 8) hb1 (by omega) (by omega)
  have hT_w := tN_nI (show k_w < 2 ^ 31 by omega)
  refine jd_aload_n dX1_ofSleeper_13 rfl ?_
  refine jd_iload_n dX1_ofSleeper_14 rfl ?_
  refine jd_iload_n dX1_ofSleeper_15 rfl ?_
  refine jd_pV (As := [.int (nI k_s), .int (nI k_w)]) (rest := []) (ct_X1_sleeperNow hw hI (k_s) (by omega) (k_w) (by omega)) (jd_rv ((w_this hw)) 0 rfl rfl) rfl q533 q535 qs24 q80 q536 nX1_sleeperNow dX1_ofSleeper_16 rfl rfl rfl (Nat.le_of_ble_eq_true rfl) ⟨(Nat.le_of_ble_eq_true rfl), (Nat.le_of_ble_eq_true rfl)⟩ ?_
  exact jd_iret dX1_ofSleeper_19 rfl ⟨by unfold c_ofSleeper; rw [if_pos hb0, if_pos hb1], by first | (rw [tN_nI (show k_s < 2 ^ 31 by omega), tN_nI (show k_w < 2 ^ 31 by omega)]; done) | (rw [tN_nI (show k_s < 2 ^ 31 by omega), tN_nI (show k_w < 2 ^ 31 by omega)]; rfl), rfl⟩

set_option maxRecDepth 20000 in
set_option maxHeartbeats 2000000 in
theorem ct_X1_ofPart {G : jd_G} {β : ll_B} {κ : ll_K} {h : jd_H} (hw : WC G β κ h) (hI : ll_I κ) (p : Int32) (w : Int32) : jd_Ct G mX1_ofPart 12 (4) (24) [.ref (β 0 0), .int (p), .int (w)] h (jd_an h (c_ofPart κ p w) (.int (partVal κ (tN p) (tN w)))) (jd_th h (c_ofPart κ p w) nmA) := by
  obtain ⟨⟨hG8, hS12, hP24, hH40, hN99, hH24⟩, hIg, hIs, hIp, hIh, hIl, hIq⟩ := id hI
  obtain ⟨mcL, hlL⟩ := w_lands hw
  obtain ⟨mcG, hlG⟩ := w_gates hw
  obtain ⟨mcS, hlS⟩ := w_sleepers hw
  obtain ⟨mcP, hlP⟩ := w_parts hw
  obtain ⟨mcH, hlH⟩ := w_hidings hw
  refine jd_ct (ls := [some (.ref (β 0 0)), some (.int (p)), some (.int (w))]) rfl rfl (by decide) (Nat.le_of_ble_eq_true rfl) rfl ?_
  refine jd_aload_n dX1_ofPart_0 rfl ?_
  refine jd_iload_n dX1_ofPart_1 rfl ?_
  refine jd_callV (As := [.int (p)]) (rest := []) (ct_X1_partAt hw hI (p)) (jd_rv ((w_this hw)) 0 rfl rfl) rfl q937 q939 qs38 q80 q940 nX1_partAt dX1_ofPart_2 rfl rfl rfl (Nat.le_of_ble_eq_true rfl) ⟨(Nat.le_of_ble_eq_true rfl), (Nat.le_of_ble_eq_true rfl), by omega, by omega⟩ (fun rv0 hn0 hq0 => ?_) (fun E h2 hx => by obtain ⟨h3, h4, h5⟩ := hx; subst h5; have hx : ¬ _ ∧ True := ⟨h3, trivial⟩; exact jd_xout rfl (jd_th.mk (k := 1) (by unfold c_ofPart; rw [if_neg hx.1]) (by decide) h4))
  obtain ⟨hb0, k_p, hk_p, rfl, rfl, he0⟩ := hq0
  rw [he0]
  have hT_p := tN_nI (show k_p < 2 ^ 31 by omega)
  refine jd_pop dX1_ofPart_5 rfl ?_
  refine jd_iload_n dX1_ofPart_6 rfl ?_
  refine jd_iconst (v := 0) dX1_ofPart_7 (by decide) ?_
  refine jd_iconst (v := 5) dX1_ofPart_8 (by decide) ?_
  refine jd_callS (As := [.int (w), .int (0), .int (5)]) (rest := []) (ct_X1_mustBeIn (w) (0) (5)) rfl q718 q719 q80 q720 nX1_mustBeIn dX1_ofPart_9 rfl rfl (Nat.le_of_ble_eq_true rfl) ⟨(Nat.le_of_ble_eq_true rfl), (Nat.le_of_ble_eq_true rfl), by omega, by omega⟩ (fun rv1 hn1 hq1 => ?_) (fun E h2 hx => by obtain ⟨h3, h4, h5⟩ := hx; subst h5; have hx : ¬ _ ∧ True := ⟨h3, trivial⟩; exact jd_xout rfl (jd_th.mk (k := 2) (by unfold c_ofPart; (try simp only [hT_p]); rw [if_pos hb0, if_neg hx.1]) (by decide) h4))
  obtain ⟨hb1, rfl, he1⟩ := hq1
  rw [he1]
  obtain ⟨k_w, hk_w, rfl⟩ := inR_ex (lo := 0) (hi := 5) hb1 (by omega) (by omega)
  have hT_w := tN_nI (show k_w < 2 ^ 31 by omega)
  refine jd_aload_n dX1_ofPart_12 rfl ?_
  refine jd_iload_n dX1_ofPart_13 rfl ?_
  refine jd_iload_n dX1_ofPart_14 rfl ?_
  refine jd_pV (As := [.int (nI k_p), .int (nI k_w)]) (rest := []) (ct_X1_partNow hw hI (k_p) (by omega) (k_w) (by omega)) (jd_rv ((w_this hw)) 0 rfl rfl) rfl q558 q560 qs28 q80 q561 nX1_partNow dX1_ofPart_15 rfl rfl rfl (Nat.le_of_ble_eq_true rfl) ⟨(Nat.le_of_ble_eq_true rfl), (Nat.le_of_ble_eq_true rfl)⟩ ?_
  exact jd_iret dX1_ofPart_18 rfl ⟨by unfold c_ofPart; rw [if_pos hb0, if_pos hb1], by first | (rw [tN_nI (show k_p < 2 ^ 31 by omega), tN_nI (show k_w < 2 ^ 31 by omega)]; done) | (rw [tN_nI (show k_p < 2 ^ 31 by omega), tN_nI (show k_w < 2 ^ 31 by omega)]; rfl), rfl⟩

set_option maxRecDepth 20000 in
set_option maxHeartbeats 2000000 in
theorem ct_X1_isGood {G : jd_G} {β : ll_B} {κ : ll_K} {h : jd_H} (hw : WC G β κ h) (hI : ll_I κ) (s : Int32) (g : Int32) : jd_Ct G mX1_isGood 12 (4) (24) [.ref (β 0 0), .int (s), .int (g)] h (jd_an h (c_isGood κ s g) (.int (jd_b (goodNow κ (tN s) (tN g))))) (jd_th h (c_isGood κ s g) nmA) := by
  obtain ⟨⟨hG8, hS12, hP24, hH40, hN99, hH24⟩, hIg, hIs, hIp, hIh, hIl, hIq⟩ := id hI
  obtain ⟨mcL, hlL⟩ := w_lands hw
  obtain ⟨mcG, hlG⟩ := w_gates hw
  obtain ⟨mcS, hlS⟩ := w_sleepers hw
  obtain ⟨mcP, hlP⟩ := w_parts hw
  obtain ⟨mcH, hlH⟩ := w_hidings hw
  refine jd_ct (ls := [some (.ref (β 0 0)), some (.int (s)), some (.int (g)), none]) rfl rfl (by decide) (Nat.le_of_ble_eq_true rfl) rfl ?_
  refine jd_aload_n dX1_isGood_0 rfl ?_
  refine jd_iload_n dX1_isGood_1 rfl ?_
  refine jd_callV (As := [.int (s)]) (rest := []) (ct_X1_sleeperAt hw hI (s)) (jd_rv ((w_this hw)) 0 rfl rfl) rfl q889 q891 qs37 q80 q892 nX1_sleeperAt dX1_isGood_2 rfl rfl rfl (Nat.le_of_ble_eq_true rfl) ⟨(Nat.le_of_ble_eq_true rfl), (Nat.le_of_ble_eq_true rfl), by omega, by omega⟩ (fun rv0 hn0 hq0 => ?_) (fun E h2 hx => by obtain ⟨h3, h4, h5⟩ := hx; subst h5; have hx : ¬ _ ∧ True := ⟨h3, trivial⟩; exact jd_xout rfl (jd_th.mk (k := 1) (by unfold c_isGood; rw [if_neg hx.1]) (by decide) h4))
  obtain ⟨hb0, k_s, hk_s, rfl, rfl, he0⟩ := hq0
  rw [he0]
  have hT_s := tN_nI (show k_s < 2 ^ 31 by omega)
  refine jd_astore_n (ls' := [_, _, _, _]) dX1_isGood_5 (Nat.le_of_ble_eq_true rfl) rfl rfl ?_
  refine jd_aload_n dX1_isGood_6 rfl ?_
  refine jd_iload_n dX1_isGood_7 rfl ?_
  refine jd_callV (As := [.int (g)]) (rest := []) (ct_X1_gateAt hw hI (g)) (jd_rv ((w_this hw)) 0 rfl rfl) rfl q818 q820 qs36 q80 q821 nX1_gateAt dX1_isGood_8 rfl rfl rfl (Nat.le_of_ble_eq_true rfl) ⟨(Nat.le_of_ble_eq_true rfl), (Nat.le_of_ble_eq_true rfl), by omega, by omega⟩ (fun rv1 hn1 hq1 => ?_) (fun E h2 hx => by obtain ⟨h3, h4, h5⟩ := hx; subst h5; have hx : ¬ _ ∧ True := ⟨h3, trivial⟩; exact jd_xout rfl (jd_th.mk (k := 1) (by unfold c_isGood; (try simp only [hT_s]); rw [if_pos hb0, if_neg hx.1]) (by decide) h4))
  obtain ⟨hb1, k_g, hk_g, rfl, rfl, he1⟩ := hq1
  rw [he1]
  have hT_g := tN_nI (show k_g < 2 ^ 31 by omega)
  refine jd_pop dX1_isGood_11 rfl ?_
  refine jd_aload_n dX1_isGood_12 rfl ?_
  refine jd_aload_n dX1_isGood_13 rfl ?_
  refine jd_iload_n dX1_isGood_14 rfl ?_
  refine jd_pV (As := [.ref (β 5 k_s), .int (nI k_g)]) (rest := []) (ct_X1_isGoodNow hw hI (k_s) (k_g) (by omega) (by omega)) (jd_rv ((w_this hw)) 0 rfl rfl) rfl q493 q495 qs21 q80 q496 nX1_isGoodNow dX1_isGood_15 rfl rfl rfl (Nat.le_of_ble_eq_true rfl) ⟨(Nat.le_of_ble_eq_true rfl), (Nat.le_of_ble_eq_true rfl)⟩ ?_
  exact jd_zret dX1_isGood_18 rfl (jd_b01 _) ⟨by unfold c_isGood; rw [if_pos hb0, if_pos hb1], by first | (rw [tN_nI (show k_s < 2 ^ 31 by omega), tN_nI (show k_g < 2 ^ 31 by omega)]; done) | (rw [tN_nI (show k_s < 2 ^ 31 by omega), tN_nI (show k_g < 2 ^ 31 by omega)]; rfl), rfl⟩

set_option maxRecDepth 20000 in
set_option maxHeartbeats 2000000 in
theorem ct_X1_night {G : jd_G} {β : ll_B} {κ : ll_K} {h : jd_H} (hw : WC G β κ h) (hI : ll_I κ) (w : Int32) : jd_Ct G mX1_night 12 (4) (24) [.ref (β 0 0), .int (w)] h (jd_an h (c_night w) (.int (nightVal κ (tN w)))) (jd_th h (c_night w) nmC) := by
  obtain ⟨⟨hG8, hS12, hP24, hH40, hN99, hH24⟩, hIg, hIs, hIp, hIh, hIl, hIq⟩ := id hI
  obtain ⟨mcL, hlL⟩ := w_lands hw
  obtain ⟨mcG, hlG⟩ := w_gates hw
  obtain ⟨mcS, hlS⟩ := w_sleepers hw
  obtain ⟨mcP, hlP⟩ := w_parts hw
  obtain ⟨mcH, hlH⟩ := w_hidings hw
  refine jd_ct (ls := [some (.ref (β 0 0)), some (.int (w))]) rfl rfl (by decide) (Nat.le_of_ble_eq_true rfl) rfl ?_
  refine jd_iload_n dX1_night_0 rfl ?_
  refine jd_iconst (v := 0) dX1_night_1 (by decide) ?_
  refine jd_bipush (v := 16) dX1_night_2 (by decide) ?_
  refine jd_callS (As := [.int (w), .int (0), .int (16)]) (rest := []) (ct_X1_mustBeIn (w) (0) (16)) rfl q718 q719 q80 q720 nX1_mustBeIn dX1_night_4 rfl rfl (Nat.le_of_ble_eq_true rfl) ⟨(Nat.le_of_ble_eq_true rfl), (Nat.le_of_ble_eq_true rfl), by omega, by omega⟩ (fun rv0 hn0 hq0 => ?_) (fun E h2 hx => by obtain ⟨h3, h4, h5⟩ := hx; subst h5; have hx : ¬ _ ∧ True := ⟨h3, trivial⟩; exact jd_xout rfl (jd_th.mk (k := 1) (by unfold c_night; rw [if_neg hx.1]) (by decide) h4))
  obtain ⟨hb0, rfl, he0⟩ := hq0
  rw [he0]
  obtain ⟨k_w, hk_w, rfl⟩ := inR_ex (lo := 0) (hi := 16) hb0 (by omega) (by omega)
  have hT_w := tN_nI (show k_w < 2 ^ 31 by omega)
  refine jd_aload_n dX1_night_7 rfl ?_
  refine jd_iload_n dX1_night_8 rfl ?_
  refine jd_pV (As := [.int (nI k_w)]) (rest := []) (ct_X1_nightNow hw hI (k_w) (by omega)) (jd_rv ((w_this hw)) 0 rfl rfl) rfl q394 q396 qs6 q80 q397 nX1_nightNow dX1_night_9 rfl rfl rfl (Nat.le_of_ble_eq_true rfl) ⟨(Nat.le_of_ble_eq_true rfl), (Nat.le_of_ble_eq_true rfl)⟩ ?_
  exact jd_iret dX1_night_12 rfl ⟨by unfold c_night; rw [if_pos hb0], by first | (rw [tN_nI (show k_w < 2 ^ 31 by omega)]; done) | (rw [tN_nI (show k_w < 2 ^ 31 by omega)]; rfl), rfl⟩

set_option maxRecDepth 20000 in
set_option maxHeartbeats 2000000 in
theorem ct_X1_wouldPay {G : jd_G} {β : ll_B} {κ : ll_K} {h : jd_H} (hw : WC G β κ h) (hI : ll_I κ) (g : Int32) : jd_Ct G mX1_wouldPay 12 (4) (24) [.ref (β 0 0), .int (g)] h (jd_an h (c_gate1 κ g) (.int (wouldPay κ (tN g)))) (jd_th h (c_gate1 κ g) nmA) := by
  obtain ⟨⟨hG8, hS12, hP24, hH40, hN99, hH24⟩, hIg, hIs, hIp, hIh, hIl, hIq⟩ := id hI
  obtain ⟨mcL, hlL⟩ := w_lands hw
  obtain ⟨mcG, hlG⟩ := w_gates hw
  obtain ⟨mcS, hlS⟩ := w_sleepers hw
  obtain ⟨mcP, hlP⟩ := w_parts hw
  obtain ⟨mcH, hlH⟩ := w_hidings hw
  refine jd_ct (ls := [some (.ref (β 0 0)), some (.int (g))]) rfl rfl (by decide) (Nat.le_of_ble_eq_true rfl) rfl ?_
  refine jd_aload_n dX1_wouldPay_0 rfl ?_
  refine jd_iload_n dX1_wouldPay_1 rfl ?_
  refine jd_callV (As := [.int (g)]) (rest := []) (ct_X1_gateAt hw hI (g)) (jd_rv ((w_this hw)) 0 rfl rfl) rfl q818 q820 qs36 q80 q821 nX1_gateAt dX1_wouldPay_2 rfl rfl rfl (Nat.le_of_ble_eq_true rfl) ⟨(Nat.le_of_ble_eq_true rfl), (Nat.le_of_ble_eq_true rfl), by omega, by omega⟩ (fun rv0 hn0 hq0 => ?_) (fun E h2 hx => by obtain ⟨h3, h4, h5⟩ := hx; subst h5; have hx : ¬ _ ∧ True := ⟨h3, trivial⟩; exact jd_xout rfl (jd_th.mk (k := 1) (by unfold c_gate1; rw [if_neg hx.1]) (by decide) h4))
  obtain ⟨hb0, k_g, hk_g, rfl, rfl, he0⟩ := hq0
  rw [he0]
  have hT_g := tN_nI (show k_g < 2 ^ 31 by omega)
  refine jd_pop dX1_wouldPay_5 rfl ?_
  refine jd_aload_n dX1_wouldPay_6 rfl ?_
  refine jd_iload_n dX1_wouldPay_7 rfl ?_
  refine jd_pV (As := [.int (nI k_g)]) (rest := []) (ct_X1_wouldPayNow hw hI (k_g) (by omega)) (jd_rv ((w_this hw)) 0 rfl rfl) rfl q489 q491 qs20 q80 q492 nX1_wouldPayNow dX1_wouldPay_8 rfl rfl rfl (Nat.le_of_ble_eq_true rfl) ⟨(Nat.le_of_ble_eq_true rfl), (Nat.le_of_ble_eq_true rfl)⟩ ?_
  exact jd_iret dX1_wouldPay_11 rfl ⟨by unfold c_gate1; rw [if_pos hb0], by first | (rw [tN_nI (show k_g < 2 ^ 31 by omega)]; done) | (rw [tN_nI (show k_g < 2 ^ 31 by omega)]; rfl), rfl⟩

set_option maxRecDepth 20000 in
set_option maxHeartbeats 2000000 in
theorem ct_X1_way {G : jd_G} {β : ll_B} {κ : ll_K} {h : jd_H} (hw : WC G β κ h) (hI : ll_I κ) (f : Int32) (t : Int32) : jd_Ct G mX1_way 11 (5) (30) [.ref (β 0 0), .int (f), .int (t)] h (jd_an h (c_way f t) (.int (wayN κ (tN f) (tN t)))) (jd_th h (c_way f t) nmA) := by
  obtain ⟨⟨hG8, hS12, hP24, hH40, hN99, hH24⟩, hIg, hIs, hIp, hIh, hIl, hIq⟩ := id hI
  obtain ⟨mcL, hlL⟩ := w_lands hw
  obtain ⟨mcG, hlG⟩ := w_gates hw
  obtain ⟨mcS, hlS⟩ := w_sleepers hw
  obtain ⟨mcP, hlP⟩ := w_parts hw
  obtain ⟨mcH, hlH⟩ := w_hidings hw
  refine jd_ct (ls := [some (.ref (β 0 0)), some (.int (f)), some (.int (t))]) rfl rfl (by decide) (Nat.le_of_ble_eq_true rfl) rfl ?_
  refine jd_iload_n dX1_way_0 rfl ?_
  refine jd_bipush (v := 6) dX1_way_1 (by decide) ?_
  refine jd_callS (As := [.int (f), .int (6)]) (rest := []) (ct_X1_checkPlace (f) (6)) rfl q694 q695 q80 q696 nX1_checkPlace dX1_way_3 rfl rfl (Nat.le_of_ble_eq_true rfl) ⟨(Nat.le_of_ble_eq_true rfl), (Nat.le_of_ble_eq_true rfl), by omega, by omega⟩ (fun rv0 hn0 hq0 => ?_) (fun E h2 hx => by obtain ⟨h3, h4, h5⟩ := hx; subst h5; have hx : ¬ _ ∧ True := ⟨h3, trivial⟩; exact jd_xout rfl (jd_th.mk (k := 1) (by unfold c_way; rw [if_neg hx.1]) (by decide) h4))
  obtain ⟨hb0, rfl, he0⟩ := hq0
  rw [he0]
  obtain ⟨k_f, hk_f, rfl⟩ := inN_ex (n := 6) (by decide) hb0
  have hT_f := tN_nI (show k_f < 2 ^ 31 by omega)
  refine jd_iload_n dX1_way_6 rfl ?_
  refine jd_bipush (v := 6) dX1_way_7 (by decide) ?_
  refine jd_callS (As := [.int (t), .int (6)]) (rest := []) (ct_X1_checkPlace (t) (6)) rfl q694 q695 q80 q696 nX1_checkPlace dX1_way_9 rfl rfl (Nat.le_of_ble_eq_true rfl) ⟨(Nat.le_of_ble_eq_true rfl), (Nat.le_of_ble_eq_true rfl), by omega, by omega⟩ (fun rv1 hn1 hq1 => ?_) (fun E h2 hx => by obtain ⟨h3, h4, h5⟩ := hx; subst h5; have hx : ¬ _ ∧ True := ⟨h3, trivial⟩; exact jd_xout rfl (jd_th.mk (k := 1) (by unfold c_way; (try simp only [hT_f]); rw [if_pos hb0, if_neg hx.1]) (by decide) h4))
  obtain ⟨hb1, rfl, he1⟩ := hq1
  rw [he1]
  obtain ⟨k_t, hk_t, rfl⟩ := inN_ex (n := 6) (by decide) hb1
  have hT_t := tN_nI (show k_t < 2 ^ 31 by omega)
  refine jd_aload_n dX1_way_12 rfl ?_
  refine jd_iload_n dX1_way_13 rfl ?_
  refine jd_callV (As := [.int (nI k_f)]) (rest := []) (ct_X1_ways hw hI (k_f) (by omega)) (jd_rv ((w_this hw)) 0 rfl rfl) rfl q562 q564 qs29 q80 q565 nX1_ways dX1_way_14 rfl rfl rfl (Nat.le_of_ble_eq_true rfl) ⟨(Nat.le_of_ble_eq_true rfl), (Nat.le_of_ble_eq_true rfl), by omega, by omega⟩ (fun rv2 hn2 hq2 => ?_) jd_nox
  obtain ⟨q, hq, rfl, rfl⟩ := hq2
  refine jd_iload_n dX1_way_17 rfl ?_
  refine jd_iald jd_up_s dX1_way_18 (vp_in_nI (by omega) (by omega)) ?_
  refine jd_top (v := .int ((aW (wayW κ k_f 72)) (nI (k_t)).toNatClampNeg)) (w := .int ((oI ((wayW κ k_f 72) k_t)))) (by rw [nI_clamp (by omega), aW_at (by omega)]) ?_
  refine jd_drop (h' := h) (jd_tmp_keep hq) ?_
  exact jd_iret dX1_way_19 rfl ⟨by unfold c_way; rw [if_pos hb0, if_pos hb1], by first | (rw [tN_nI (show k_f < 2 ^ 31 by omega), tN_nI (show k_t < 2 ^ 31 by omega)]; done) | (rw [tN_nI (show k_f < 2 ^ 31 by omega), tN_nI (show k_t < 2 ^ 31 by omega)]; rfl), rfl⟩

set_option maxRecDepth 20000 in
set_option maxHeartbeats 2000000 in
theorem ct_X1_plan {G : jd_G} {β : ll_B} {κ : ll_K} {h : jd_H} (hw : WC G β κ h) (hI : ll_I κ) (p : Int32) (g : Int32) : jd_Ct G mX1_plan 12 (14) (762) [.ref (β 0 0), .int (p), .int (g)] h (jd_an h (c_plan κ p g) (.int (planVal κ (tN p) (oN g)))) (jd_th h (c_plan κ p g) nmA) := by
  obtain ⟨⟨hG8, hS12, hP24, hH40, hN99, hH24⟩, hIg, hIs, hIp, hIh, hIl, hIq⟩ := id hI
  obtain ⟨mcL, hlL⟩ := w_lands hw
  obtain ⟨mcG, hlG⟩ := w_gates hw
  obtain ⟨mcS, hlS⟩ := w_sleepers hw
  obtain ⟨mcP, hlP⟩ := w_parts hw
  obtain ⟨mcH, hlH⟩ := w_hidings hw
  refine jd_ct (ls := [some (.ref (β 0 0)), some (.int (p)), some (.int (g))]) rfl rfl (by decide) (Nat.le_of_ble_eq_true rfl) rfl ?_
  refine jd_iload_n dX1_plan_0 rfl ?_
  refine jd_iconst (v := (-1)) dX1_plan_1 (by decide) ?_
  refine jd_mg2 10 (.int ((if g = (-1) then 0 else g))) (fun hj1 => ?_) ?_
  · refine jd_icmp_ne (tgt := 9) dX1_plan_2 (by decide) (fun z2 => ?_) (fun z3 => ?_)
    · refine jd_iload_n dX1_plan_9 rfl ?_
      exact jd_top (congrArg Value.int (by rw [if_neg z2])) hj1
    · refine jd_iconst (v := 0) dX1_plan_5 (by decide) ?_
      refine jd_goto (tgt := 10) dX1_plan_6 (by decide) ?_
      exact jd_top (congrArg Value.int (by rw [if_pos z3])) hj1
  · refine jd_iload_n dX1_plan_10 rfl ?_
    refine jd_iconst (v := (-1)) dX1_plan_11 (by decide) ?_
    refine jd_mg2 28 (.int ((if g = (-1) then 1 else nI (nG κ)))) (fun hj4 => ?_) ?_
    · refine jd_icmp_ne (tgt := 19) dX1_plan_12 (by decide) (fun z5 => ?_) (fun z6 => ?_)
      · refine jd_aload_n dX1_plan_19 rfl ?_
        refine jd_get in_X1 ((w_this hw)) 1 q284 dX1_plan_20 rfl (Nat.le_of_ble_eq_true rfl) rfl ?_
        refine jd_pF (n := 0) (As := []) (rest := [.int ((if g = (-1) then 0 else g))]) (ct_J2_size hlG (show nG κ ≤ 900 by omega)) (jd_rv hlG 15 rfl rfl) (ci := 15) rfl (List.mem_of_getElem? (i := 2) rfl) rfl q339 q342 q344 q83 q346 q341 q345 q343 q207 ⟨by decide, by decide, by decide +kernel⟩ dX1_plan_23 rfl rfl (Nat.le_of_ble_eq_true rfl) ⟨(Nat.le_of_ble_eq_true rfl), (Nat.le_of_ble_eq_true rfl)⟩ ?_
        exact jd_top (congrArg Value.int (by rw [if_neg z5])) hj4
      · refine jd_iconst (v := 1) dX1_plan_15 (by decide) ?_
        refine jd_goto (tgt := 28) dX1_plan_16 (by decide) ?_
        exact jd_top (congrArg Value.int (by rw [if_pos z6])) hj4
    · refine jd_callS (As := [.int ((if g = (-1) then 0 else g)), .int ((if g = (-1) then 1 else nI (nG κ)))]) (rest := []) (ct_X1_checkPlace ((if g = (-1) then 0 else g)) ((if g = (-1) then 1 else nI (nG κ)))) rfl q694 q695 q80 q696 nX1_checkPlace dX1_plan_28 rfl rfl (Nat.le_of_ble_eq_true rfl) ⟨(Nat.le_of_ble_eq_true rfl), (Nat.le_of_ble_eq_true rfl), by omega, by omega⟩ (fun rv6 hn6 hq6 => ?_) (fun E h2 hx => by obtain ⟨h3, h4, h5⟩ := hx; subst h5; have hx : ¬ _ ∧ True := ⟨h3, trivial⟩; exact jd_xout rfl (jd_th.mk (k := 1) (by unfold c_plan; rw [if_neg hx.1]) (by decide) h4))
      obtain ⟨hb6, rfl, he6⟩ := hq6
      rw [he6]
      obtain ⟨o, ho, rfl⟩ := plan_o hI hb6
      refine jd_iload_n dX1_plan_31 rfl ?_
      refine jd_iconst (v := 0) dX1_plan_32 (by decide) ?_
      refine jd_sipush (v := 2000) dX1_plan_33 (by decide) ?_
      refine jd_callS (As := [.int (p), .int (0), .int (2000)]) (rest := []) (ct_X1_mustBeIn (p) (0) (2000)) rfl q718 q719 q80 q720 nX1_mustBeIn dX1_plan_36 rfl rfl (Nat.le_of_ble_eq_true rfl) ⟨(Nat.le_of_ble_eq_true rfl), (Nat.le_of_ble_eq_true rfl), by omega, by omega⟩ (fun rv7 hn7 hq7 => ?_) (fun E h2 hx => by obtain ⟨h3, h4, h5⟩ := hx; subst h5; have hx : ¬ _ ∧ True := ⟨h3, trivial⟩; exact jd_xout rfl (jd_th.mk (k := 2) (by unfold c_plan; rw [if_pos hb6, if_neg hx.1]) (by decide) h4))
      obtain ⟨hb7, rfl, he7⟩ := hq7
      rw [he7]
      obtain ⟨k_p, hk_p, rfl⟩ := inR_ex (lo := 0) (hi := 2000) hb7 (by omega) (by omega)
      have hT_p := tN_nI (show k_p < 2 ^ 31 by omega)
      refine jd_aload_n dX1_plan_39 rfl ?_
      refine jd_iload_n dX1_plan_40 rfl ?_
      refine jd_iload_n dX1_plan_41 rfl ?_
      refine jd_callV (As := [.int (nI k_p), .int ((oI o))]) (rest := []) (ct_X1_planNow hw hI (k_p) (by omega) o ho) (jd_rv ((w_this hw)) 0 rfl rfl) rfl q569 q571 qs30 q80 q572 nX1_planNow dX1_plan_42 rfl rfl rfl (Nat.le_of_ble_eq_true rfl) ⟨(Nat.le_of_ble_eq_true rfl), (Nat.le_of_ble_eq_true rfl), by omega, by omega⟩ (fun rv8 hn8 hq8 => ?_) jd_nox
      obtain ⟨rfl, he8⟩ := hq8
      rw [he8]
      exact jd_iret dX1_plan_45 rfl ⟨by unfold c_plan; rw [if_pos hb6, if_pos hb7], by rw [tN_nI (show k_p < 2 ^ 31 by omega), oN_oI (fun j hj => by have := ho j hj; omega)], rfl⟩

set_option maxRecDepth 20000 in
set_option maxHeartbeats 2000000 in
theorem ct_X1_isSound {G : jd_G} {β : ll_B} {κ : ll_K} {h : jd_H} (hw : WC G β κ h) (hI : ll_I κ)  : jd_Ct G mX1_isSound 6 (0) (0) [.ref (β 0 0)] h (jd_pu h (.int 1)) jd_no := by
  obtain ⟨⟨hG8, hS12, hP24, hH40, hN99, hH24⟩, hIg, hIs, hIp, hIh, hIl, hIq⟩ := id hI
  obtain ⟨mcL, hlL⟩ := w_lands hw
  obtain ⟨mcG, hlG⟩ := w_gates hw
  obtain ⟨mcS, hlS⟩ := w_sleepers hw
  obtain ⟨mcP, hlP⟩ := w_parts hw
  obtain ⟨mcH, hlH⟩ := w_hidings hw
  refine jd_ct (ls := [some (.ref (β 0 0))]) rfl rfl (by decide) (Nat.le_of_ble_eq_true rfl) rfl ?_
  refine jd_aload_n dX1_isSound_0 rfl ?_
  refine jd_pV (As := []) (rest := []) (ct_X1_isSoundNow hw hI) (jd_rv ((w_this hw)) 0 rfl rfl) rfl q315 q317 qs3 q80 q318 nX1_isSoundNow dX1_isSound_1 rfl rfl rfl (Nat.le_of_ble_eq_true rfl) ⟨(Nat.le_of_ble_eq_true rfl), (Nat.le_of_ble_eq_true rfl)⟩ ?_
  exact jd_zret dX1_isSound_4 rfl (Or.inr rfl) ⟨rfl, rfl⟩
