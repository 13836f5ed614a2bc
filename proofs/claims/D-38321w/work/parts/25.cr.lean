/-! the component, reading (printed by mk_c.py) -/
set_option maxRecDepth 20000 in
set_option maxHeartbeats 2000000 in
theorem ct_X9_is {G : jd_G} {h : jd_H} {i : jd_Id} {a pass r q : Nat} {number isBaby land patience gate declares : Int32} (ho : h i = some (a, .inl (.inr (4, [.int number, .int isBaby, .int land, .int patience, .ref (jd_rA G r), .int gate, .int declares, .ref pass])))) (hr : r < 3) (hq : q < 3) : jd_Ct G mX9_is 0 (0) (0) [.ref (a), .ref (jd_rA G q)] h (jd_pu h (.int (jd_b (r = q)))) jd_no := by
  refine jd_ct (ls := [some (.ref (a)), some (.ref (jd_rA G q))]) rfl rfl (by decide) (Nat.le_of_ble_eq_true rfl) rfl ?_
  refine jd_aload_n dX9_is_0 rfl ?_
  refine jd_get in_X9 ho 4 q857 dX9_is_1 rfl (Nat.le_of_ble_eq_true rfl) rfl ?_
  refine jd_aload_n dX9_is_4 rfl ?_
  refine jd_mg2 13 (.int (jd_b ((r = q)))) (fun hj1 => ?_) ?_
  · refine jd_acmpR_ne (tgt := 12) dX9_is_5 (by decide) (by first | assumption | omega) (by first | assumption | omega) (fun z2 => ?_) (fun z3 => ?_)
    · refine jd_iconst (v := 0) dX9_is_12 (by decide) ?_
      exact jd_top (congrArg Value.int (jd_b0 z2).symm) hj1
    · refine jd_iconst (v := 1) dX9_is_8 (by decide) ?_
      refine jd_goto (tgt := 13) dX9_is_9 (by decide) ?_
      exact jd_top (congrArg Value.int (jd_b1 z3).symm) hj1
  · exact jd_zret dX9_is_13 rfl (jd_b01 _) ⟨rfl, rfl⟩

set_option maxRecDepth 20000 in
set_option maxHeartbeats 2000000 in
theorem ct_X1_headOf {G : jd_G} {β : ll_B} {κ : ll_K} {h : jd_H} (hw : WC G β κ h) (hI : ll_I κ) (s : Nat) (hs : s < 2 ^ 31) : jd_Ct G mX1_headOf 3 (0) (0) [.ref (β 0 0), .int (nI s)] h (jd_pu h (.int (headOf κ s))) jd_no := by
  obtain ⟨⟨hG8, hS12, hP24, hH40, hN99, hH24⟩, hIg, hIs, hIp, hIh, hIl, hIq⟩ := id hI
  obtain ⟨mcL, hlL⟩ := w_lands hw
  obtain ⟨mcG, hlG⟩ := w_gates hw
  obtain ⟨mcS, hlS⟩ := w_sleepers hw
  obtain ⟨mcP, hlP⟩ := w_parts hw
  obtain ⟨mcH, hlH⟩ := w_hidings hw
  refine jd_ct (ls := [some (.ref (β 0 0)), some (.int (nI s)), none, none]) rfl rfl (by decide) (Nat.le_of_ble_eq_true rfl) rfl ?_
  refine jd_iconst (v := 0) dX1_headOf_0 (by decide) ?_
  refine jd_istore_n (ls' := [_, _, _, _]) dX1_headOf_1 (Nat.le_of_ble_eq_true rfl) rfl rfl ?_
  refine jd_iconst (v := 0) dX1_headOf_2 (by decide) ?_
  refine jd_istore_n (ls' := [_, _, _, _]) dX1_headOf_3 (Nat.le_of_ble_eq_true rfl) rfl rfl ?_
  have lp4_1 : ∀ (j : Nat) (k : Nat) (hk0 : k + j = nP κ), jd_W G mX1_headOf 3 (0) (0) 4 [some (.ref (β 0 0)), some (.int (nI s)), some (.int ((ll_set (fun p => pHead κ p = some s) k))), some (.int (nI k))] [] h (jd_pu h (.int (headOf κ s))) jd_no := by
    intro j
    induction j with
    | zero =>
      intro k hk0
      obtain rfl : k = nP κ := by omega
      refine jd_iload_n dX1_headOf_4 rfl ?_
      refine jd_aload_n dX1_headOf_5 rfl ?_
      refine jd_get in_X1 ((w_this hw)) 3 q286 dX1_headOf_6 rfl (Nat.le_of_ble_eq_true rfl) rfl ?_
      refine jd_pF (n := 0) (As := []) (rest := [.int (nI (nP κ))]) (ct_J2_size hlP (show nP κ ≤ 900 by omega)) (jd_rv hlP 15 rfl rfl) (ci := 15) rfl (List.mem_of_getElem? (i := 2) rfl) rfl q339 q342 q344 q83 q346 q341 q345 q343 q207 ⟨by decide, by decide, by decide +kernel⟩ dX1_headOf_9 rfl rfl (Nat.le_of_ble_eq_true rfl) ⟨(Nat.le_of_ble_eq_true rfl), (Nat.le_of_ble_eq_true rfl)⟩ ?_
      refine jd_ncmp_ge (a := nP κ) (b := nP κ) (tgt := 53) dX1_headOf_14 (by decide) (by omega) (by omega) (fun z2 => ?_) (fun z3 => ?_)
      · refine jd_iload_n dX1_headOf_53 rfl ?_
        exact jd_iret dX1_headOf_54 rfl ⟨rfl, rfl⟩
      · omega
    | succ j ih4 =>
      intro k hk0
      refine jd_iload_n dX1_headOf_4 rfl ?_
      refine jd_aload_n dX1_headOf_5 rfl ?_
      refine jd_get in_X1 ((w_this hw)) 3 q286 dX1_headOf_6 rfl (Nat.le_of_ble_eq_true rfl) rfl ?_
      refine jd_pF (n := 0) (As := []) (rest := [.int (nI k)]) (ct_J2_size hlP (show nP κ ≤ 900 by omega)) (jd_rv hlP 15 rfl rfl) (ci := 15) rfl (List.mem_of_getElem? (i := 2) rfl) rfl q339 q342 q344 q83 q346 q341 q345 q343 q207 ⟨by decide, by decide, by decide +kernel⟩ dX1_headOf_9 rfl rfl (Nat.le_of_ble_eq_true rfl) ⟨(Nat.le_of_ble_eq_true rfl), (Nat.le_of_ble_eq_true rfl)⟩ ?_
      refine jd_ncmp_ge (a := k) (b := nP κ) (tgt := 53) dX1_headOf_14 (by decide) (by omega) (by omega) (fun z4 => ?_) (fun z5 => ?_)
      · omega
      · refine jd_iload_n dX1_headOf_17 rfl ?_
        refine jd_aload_n dX1_headOf_18 rfl ?_
        refine jd_get in_X1 ((w_this hw)) 3 q286 dX1_headOf_19 rfl (Nat.le_of_ble_eq_true rfl) rfl ?_
        refine jd_iload_n dX1_headOf_22 rfl ?_
        refine jd_pF (n := 1) (As := [.int (nI k)]) (rest := [.int ((ll_set (fun p => pHead κ p = some s) k))]) (ct_J2_get hlP (show nP κ ≤ 900 by omega) (k := k) (show k < nP κ by omega)) (jd_rv hlP 15 rfl rfl) (ci := 15) rfl (List.mem_of_getElem? (i := 1) rfl) rfl q320 q323 q325 q83 q327 q322 q326 q324 q207 ⟨by decide, by decide, by decide +kernel⟩ dX1_headOf_23 rfl rfl (Nat.le_of_ble_eq_true rfl) ⟨(Nat.le_of_ble_eq_true rfl), (Nat.le_of_ble_eq_true rfl)⟩ ?_
        refine jd_castS (jd_rv (((w_part hw)) k (show k < nP κ by omega)) 5 rfl rfl) (ci := 5) rfl q377 dX1_headOf_28 ?_
        refine jd_getN in_X11 (((w_part hw)) k (show k < nP κ by omega)) 3 q908 dX1_headOf_31 rfl (Nat.le_of_ble_eq_true rfl) rfl ?_
        refine jd_iload_n dX1_headOf_34 rfl ?_
        refine jd_mg2 45 (.int ((if pHead κ k = some s then (1 <<< (nI k &&& 31)) else 0))) (fun hj6 => ?_) ?_
        · refine jd_ocmp_ne (tgt := 44) dX1_headOf_35 (by decide) (fun j hj => by have := (hIp k (by omega)).1 j hj; omega) (by omega) (fun z7 => ?_) (fun z8 => ?_)
          · refine jd_iconst (v := 0) dX1_headOf_44 (by decide) ?_
            exact jd_top (congrArg Value.int (by rw [if_neg z7])) hj6
          · refine jd_iconst (v := 1) dX1_headOf_38 (by decide) ?_
            refine jd_iload_n dX1_headOf_39 rfl ?_
            refine jd_ishl dX1_headOf_40 ?_
            refine jd_goto (tgt := 45) dX1_headOf_41 (by decide) ?_
            exact jd_top (congrArg Value.int (by rw [if_pos z8])) hj6
        · refine jd_ior dX1_headOf_45 ?_
          refine jd_istore_n (ls' := [_, _, _, _]) dX1_headOf_46 (Nat.le_of_ble_eq_true rfl) rfl rfl ?_
          refine jd_iincN (n := 1) (ls' := [_, _, _, _]) dX1_headOf_47 rfl (Nat.le_of_ble_eq_true rfl) rfl rfl ?_
          refine jd_goto (tgt := 4) dX1_headOf_50 (by decide) ?_
          refine jd_lsub [some (.ref (β 0 0)), some (.int (nI s)), some (.int ((ll_set (fun p => pHead κ p = some s) (k + 1)))), some (.int (nI (k + 1)))] ⟨rfl, rfl, rfl, rfl, trivial⟩ ?_
          exact ih4 (k + 1) (by omega)
  refine jd_lsub [some (.ref (β 0 0)), some (.int (nI s)), some (.int ((ll_set (fun p => pHead κ p = some s) 0))), some (.int (nI 0))] ⟨rfl, rfl, rfl, rfl, trivial⟩ ?_
  exact lp4_1 (nP κ) 0 (by omega)

set_option maxRecDepth 20000 in
set_option maxHeartbeats 2000000 in
theorem ct_X1_worthOf {G : jd_G} {β : ll_B} {κ : ll_K} {h : jd_H} (hw : WC G β κ h) (hI : ll_I κ) (set : Int32) : jd_Ct G mX1_worthOf 3 (0) (0) [.ref (β 0 0), .int (set)] h (jd_pu h (.int (worthOf κ set))) jd_no := by
  obtain ⟨⟨hG8, hS12, hP24, hH40, hN99, hH24⟩, hIg, hIs, hIp, hIh, hIl, hIq⟩ := id hI
  obtain ⟨mcL, hlL⟩ := w_lands hw
  obtain ⟨mcG, hlG⟩ := w_gates hw
  obtain ⟨mcS, hlS⟩ := w_sleepers hw
  obtain ⟨mcP, hlP⟩ := w_parts hw
  obtain ⟨mcH, hlH⟩ := w_hidings hw
  refine jd_ct (ls := [some (.ref (β 0 0)), some (.int (set)), none, none]) rfl rfl (by decide) (Nat.le_of_ble_eq_true rfl) rfl ?_
  refine jd_iconst (v := 0) dX1_worthOf_0 (by decide) ?_
  refine jd_istore_n (ls' := [_, _, _, _]) dX1_worthOf_1 (Nat.le_of_ble_eq_true rfl) rfl rfl ?_
  refine jd_iconst (v := 0) dX1_worthOf_2 (by decide) ?_
  refine jd_istore_n (ls' := [_, _, _, _]) dX1_worthOf_3 (Nat.le_of_ble_eq_true rfl) rfl rfl ?_
  have lp4_1 : ∀ (j : Nat) (k : Nat) (hk0 : k + j = nP κ), jd_W G mX1_worthOf 3 (0) (0) 4 [some (.ref (β 0 0)), some (.int (set)), some (.int ((ll_sum (fun p => if ll_has set p then pWorth κ p else 0) k))), some (.int (nI k))] [] h (jd_pu h (.int (worthOf κ set))) jd_no := by
    intro j
    induction j with
    | zero =>
      intro k hk0
      obtain rfl : k = nP κ := by omega
      refine jd_iload_n dX1_worthOf_4 rfl ?_
      refine jd_aload_n dX1_worthOf_5 rfl ?_
      refine jd_get in_X1 ((w_this hw)) 3 q286 dX1_worthOf_6 rfl (Nat.le_of_ble_eq_true rfl) rfl ?_
      refine jd_pF (n := 0) (As := []) (rest := [.int (nI (nP κ))]) (ct_J2_size hlP (show nP κ ≤ 900 by omega)) (jd_rv hlP 15 rfl rfl) (ci := 15) rfl (List.mem_of_getElem? (i := 2) rfl) rfl q339 q342 q344 q83 q346 q341 q345 q343 q207 ⟨by decide, by decide, by decide +kernel⟩ dX1_worthOf_9 rfl rfl (Nat.le_of_ble_eq_true rfl) ⟨(Nat.le_of_ble_eq_true rfl), (Nat.le_of_ble_eq_true rfl)⟩ ?_
      refine jd_ncmp_ge (a := nP κ) (b := nP κ) (tgt := 54) dX1_worthOf_14 (by decide) (by omega) (by omega) (fun z2 => ?_) (fun z3 => ?_)
      · refine jd_iload_n dX1_worthOf_54 rfl ?_
        exact jd_iret dX1_worthOf_55 rfl ⟨rfl, rfl⟩
      · omega
    | succ j ih4 =>
      intro k hk0
      refine jd_iload_n dX1_worthOf_4 rfl ?_
      refine jd_aload_n dX1_worthOf_5 rfl ?_
      refine jd_get in_X1 ((w_this hw)) 3 q286 dX1_worthOf_6 rfl (Nat.le_of_ble_eq_true rfl) rfl ?_
      refine jd_pF (n := 0) (As := []) (rest := [.int (nI k)]) (ct_J2_size hlP (show nP κ ≤ 900 by omega)) (jd_rv hlP 15 rfl rfl) (ci := 15) rfl (List.mem_of_getElem? (i := 2) rfl) rfl q339 q342 q344 q83 q346 q341 q345 q343 q207 ⟨by decide, by decide, by decide +kernel⟩ dX1_worthOf_9 rfl rfl (Nat.le_of_ble_eq_true rfl) ⟨(Nat.le_of_ble_eq_true rfl), (Nat.le_of_ble_eq_true rfl)⟩ ?_
      refine jd_ncmp_ge (a := k) (b := nP κ) (tgt := 54) dX1_worthOf_14 (by decide) (by omega) (by omega) (fun z4 => ?_) (fun z5 => ?_)
      · omega
      · refine jd_iload_n dX1_worthOf_17 rfl ?_
        refine jd_iload_n dX1_worthOf_18 rfl ?_
        refine jd_iload_n dX1_worthOf_19 rfl ?_
        refine jd_pS (As := [.int (set), .int (nI k)]) (rest := [.int ((ll_sum (fun p => if ll_has set p then pWorth κ p else 0) k))]) (ct_X1_has (set) (nI k)) rfl q482 q483 q80 q484 nX1_has dX1_worthOf_20 rfl rfl (Nat.le_of_ble_eq_true rfl) ⟨(Nat.le_of_ble_eq_true rfl), (Nat.le_of_ble_eq_true rfl)⟩ ?_
        refine jd_mg1 46 (.int ((if (((set >>> (nI k &&& 31)) &&& 1) = 1) then (pWorth κ k) else 0))) (fun hj6 => ?_) ?_
        · refine jd_bif_eq (tgt := 45) dX1_worthOf_23 (by decide) (fun z7 => ?_) (fun z8 => ?_)
          · refine jd_iconst (v := 0) dX1_worthOf_45 (by decide) ?_
            exact jd_top (congrArg Value.int (by rw [if_neg z7])) hj6
          · refine jd_aload_n dX1_worthOf_26 rfl ?_
            refine jd_get in_X1 ((w_this hw)) 3 q286 dX1_worthOf_27 rfl (Nat.le_of_ble_eq_true rfl) rfl ?_
            refine jd_iload_n dX1_worthOf_30 rfl ?_
            refine jd_pF (n := 1) (As := [.int (nI k)]) (rest := [.int ((ll_sum (fun p => if ll_has set p then pWorth κ p else 0) k))]) (ct_J2_get hlP (show nP κ ≤ 900 by omega) (k := k) (show k < nP κ by omega)) (jd_rv hlP 15 rfl rfl) (ci := 15) rfl (List.mem_of_getElem? (i := 1) rfl) rfl q320 q323 q325 q83 q327 q322 q326 q324 q207 ⟨by decide, by decide, by decide +kernel⟩ dX1_worthOf_31 rfl rfl (Nat.le_of_ble_eq_true rfl) ⟨(Nat.le_of_ble_eq_true rfl), (Nat.le_of_ble_eq_true rfl)⟩ ?_
            refine jd_castS (jd_rv (((w_part hw)) k (show k < nP κ by omega)) 5 rfl rfl) (ci := 5) rfl q377 dX1_worthOf_36 ?_
            refine jd_getN in_X11 (((w_part hw)) k (show k < nP κ by omega)) 1 q904 dX1_worthOf_39 rfl (Nat.le_of_ble_eq_true rfl) rfl ?_
            refine jd_goto (tgt := 46) dX1_worthOf_42 (by decide) ?_
            exact jd_top (congrArg Value.int (by rw [if_pos z8])) hj6
        · refine jd_iadd dX1_worthOf_46 ?_
          refine jd_istore_n (ls' := [_, _, _, _]) dX1_worthOf_47 (Nat.le_of_ble_eq_true rfl) rfl rfl ?_
          refine jd_iincN (n := 1) (ls' := [_, _, _, _]) dX1_worthOf_48 rfl (Nat.le_of_ble_eq_true rfl) rfl rfl ?_
          refine jd_goto (tgt := 4) dX1_worthOf_51 (by decide) ?_
          refine jd_lsub [some (.ref (β 0 0)), some (.int (set)), some (.int ((ll_sum (fun p => if ll_has set p then pWorth κ p else 0) (k + 1)))), some (.int (nI (k + 1)))] ⟨rfl, rfl, rfl, rfl, trivial⟩ ?_
          exact ih4 (k + 1) (by omega)
  refine jd_lsub [some (.ref (β 0 0)), some (.int (set)), some (.int ((ll_sum (fun p => if ll_has set p then pWorth κ p else 0) 0))), some (.int (nI 0))] ⟨rfl, rfl, rfl, rfl, trivial⟩ ?_
  exact lp4_1 (nP κ) 0 (by omega)

set_option maxRecDepth 20000 in
set_option maxHeartbeats 2000000 in
theorem ct_X1_hidingsOf {G : jd_G} {β : ll_B} {κ : ll_K} {h : jd_H} (hw : WC G β κ h) (hI : ll_I κ) (s : Nat) (hs : s < 2 ^ 31) : jd_Ct G mX1_hidingsOf 3 (0) (0) [.ref (β 0 0), .int (nI s)] h (jd_pu h (.int (hidingsOf κ s))) jd_no := by
  obtain ⟨⟨hG8, hS12, hP24, hH40, hN99, hH24⟩, hIg, hIs, hIp, hIh, hIl, hIq⟩ := id hI
  obtain ⟨mcL, hlL⟩ := w_lands hw
  obtain ⟨mcG, hlG⟩ := w_gates hw
  obtain ⟨mcS, hlS⟩ := w_sleepers hw
  obtain ⟨mcP, hlP⟩ := w_parts hw
  obtain ⟨mcH, hlH⟩ := w_hidings hw
  refine jd_ct (ls := [some (.ref (β 0 0)), some (.int (nI s)), none, none]) rfl rfl (by decide) (Nat.le_of_ble_eq_true rfl) rfl ?_
  refine jd_iconst (v := 0) dX1_hidingsOf_0 (by decide) ?_
  refine jd_istore_n (ls' := [_, _, _, _]) dX1_hidingsOf_1 (Nat.le_of_ble_eq_true rfl) rfl rfl ?_
  refine jd_iconst (v := 0) dX1_hidingsOf_2 (by decide) ?_
  refine jd_istore_n (ls' := [_, _, _, _]) dX1_hidingsOf_3 (Nat.le_of_ble_eq_true rfl) rfl rfl ?_
  have lp4_1 : ∀ (j : Nat) (k : Nat) (hk0 : k + j = (hids κ).length), jd_W G mX1_hidingsOf 3 (0) (0) 4 [some (.ref (β 0 0)), some (.int (nI s)), some (.int ((ll_cnt (fun p => hS κ p = s) k))), some (.int (nI k))] [] h (jd_pu h (.int (hidingsOf κ s))) jd_no := by
    intro j
    induction j with
    | zero =>
      intro k hk0
      obtain rfl : k = (hids κ).length := by omega
      refine jd_iload_n dX1_hidingsOf_4 rfl ?_
      refine jd_aload_n dX1_hidingsOf_5 rfl ?_
      refine jd_get in_X1 ((w_this hw)) 4 q287 dX1_hidingsOf_6 rfl (Nat.le_of_ble_eq_true rfl) rfl ?_
      refine jd_pF (n := 0) (As := []) (rest := [.int (nI ((hids κ).length))]) (ct_J2_size hlH (show (hids κ).length ≤ 900 by omega)) (jd_rv hlH 15 rfl rfl) (ci := 15) rfl (List.mem_of_getElem? (i := 2) rfl) rfl q339 q342 q344 q83 q346 q341 q345 q343 q207 ⟨by decide, by decide, by decide +kernel⟩ dX1_hidingsOf_9 rfl rfl (Nat.le_of_ble_eq_true rfl) ⟨(Nat.le_of_ble_eq_true rfl), (Nat.le_of_ble_eq_true rfl)⟩ ?_
      refine jd_ncmp_ge (a := (hids κ).length) (b := (hids κ).length) (tgt := 51) dX1_hidingsOf_14 (by decide) (by omega) (by omega) (fun z2 => ?_) (fun z3 => ?_)
      · refine jd_iload_n dX1_hidingsOf_51 rfl ?_
        exact jd_iret dX1_hidingsOf_52 rfl ⟨rfl, rfl⟩
      · omega
    | succ j ih4 =>
      intro k hk0
      have hh1 := fun (w : k < (hids κ).length) => hIh k w
      refine jd_iload_n dX1_hidingsOf_4 rfl ?_
      refine jd_aload_n dX1_hidingsOf_5 rfl ?_
      refine jd_get in_X1 ((w_this hw)) 4 q287 dX1_hidingsOf_6 rfl (Nat.le_of_ble_eq_true rfl) rfl ?_
      refine jd_pF (n := 0) (As := []) (rest := [.int (nI k)]) (ct_J2_size hlH (show (hids κ).length ≤ 900 by omega)) (jd_rv hlH 15 rfl rfl) (ci := 15) rfl (List.mem_of_getElem? (i := 2) rfl) rfl q339 q342 q344 q83 q346 q341 q345 q343 q207 ⟨by decide, by decide, by decide +kernel⟩ dX1_hidingsOf_9 rfl rfl (Nat.le_of_ble_eq_true rfl) ⟨(Nat.le_of_ble_eq_true rfl), (Nat.le_of_ble_eq_true rfl)⟩ ?_
      refine jd_ncmp_ge (a := k) (b := (hids κ).length) (tgt := 51) dX1_hidingsOf_14 (by decide) (by omega) (by omega) (fun z4 => ?_) (fun z5 => ?_)
      · omega
      · refine jd_iload_n dX1_hidingsOf_17 rfl ?_
        refine jd_aload_n dX1_hidingsOf_18 rfl ?_
        refine jd_get in_X1 ((w_this hw)) 4 q287 dX1_hidingsOf_19 rfl (Nat.le_of_ble_eq_true rfl) rfl ?_
        refine jd_iload_n dX1_hidingsOf_22 rfl ?_
        refine jd_pF (n := 1) (As := [.int (nI k)]) (rest := [.int ((ll_cnt (fun p => hS κ p = s) k))]) (ct_J2_get hlH (show (hids κ).length ≤ 900 by omega) (k := k) (show k < (hids κ).length by omega)) (jd_rv hlH 15 rfl rfl) (ci := 15) rfl (List.mem_of_getElem? (i := 1) rfl) rfl q320 q323 q325 q83 q327 q322 q326 q324 q207 ⟨by decide, by decide, by decide +kernel⟩ dX1_hidingsOf_23 rfl rfl (Nat.le_of_ble_eq_true rfl) ⟨(Nat.le_of_ble_eq_true rfl), (Nat.le_of_ble_eq_true rfl)⟩ ?_
        refine jd_castS (jd_rv (((w_hid hw)) k (by omega)) 7 rfl rfl) (ci := 7) rfl q548 dX1_hidingsOf_28 ?_
        refine jd_getN in_X14 (((w_hid hw)) k (by omega)) 0 q1059 dX1_hidingsOf_31 rfl (Nat.le_of_ble_eq_true rfl) rfl ?_
        refine jd_iload_n dX1_hidingsOf_34 rfl ?_
        refine jd_mg2 43 (.int (jd_b (((hS κ k) = s)))) (fun hj6 => ?_) ?_
        · refine jd_ncmp_ne (a := (hS κ k)) (b := s) (tgt := 42) dX1_hidingsOf_35 (by decide) (by omega) (by omega) (fun z7 => ?_) (fun z8 => ?_)
          · refine jd_iconst (v := 0) dX1_hidingsOf_42 (by decide) ?_
            exact jd_top (congrArg Value.int (jd_b0 z7).symm) hj6
          · refine jd_iconst (v := 1) dX1_hidingsOf_38 (by decide) ?_
            refine jd_goto (tgt := 43) dX1_hidingsOf_39 (by decide) ?_
            exact jd_top (congrArg Value.int (jd_b1 z8).symm) hj6
        · refine jd_iadd dX1_hidingsOf_43 ?_
          refine jd_istore_n (ls' := [_, _, _, _]) dX1_hidingsOf_44 (Nat.le_of_ble_eq_true rfl) rfl rfl ?_
          refine jd_iincN (n := 1) (ls' := [_, _, _, _]) dX1_hidingsOf_45 rfl (Nat.le_of_ble_eq_true rfl) rfl rfl ?_
          refine jd_goto (tgt := 4) dX1_hidingsOf_48 (by decide) ?_
          refine jd_lsub [some (.ref (β 0 0)), some (.int (nI s)), some (.int ((ll_cnt (fun p => hS κ p = s) (k + 1)))), some (.int (nI (k + 1)))] ⟨rfl, rfl, rfl, rfl, trivial⟩ ?_
          exact ih4 (k + 1) (by omega)
  refine jd_lsub [some (.ref (β 0 0)), some (.int (nI s)), some (.int ((ll_cnt (fun p => hS κ p = s) 0))), some (.int (nI 0))] ⟨rfl, rfl, rfl, rfl, trivial⟩ ?_
  exact lp4_1 ((hids κ).length) 0 (by omega)

set_option maxRecDepth 20000 in
set_option maxHeartbeats 2000000 in
theorem ct_X1_storeOf {G : jd_G} {β : ll_B} {κ : ll_K} {h : jd_H} (hw : WC G β κ h) (hI : ll_I κ) (l : Nat) (hl : l < 2 ^ 31) : jd_Ct G mX1_storeOf 3 (0) (0) [.ref (β 0 0), .int (nI l)] h (jd_pu h (.int (storeOf κ l))) jd_no := by
  obtain ⟨⟨hG8, hS12, hP24, hH40, hN99, hH24⟩, hIg, hIs, hIp, hIh, hIl, hIq⟩ := id hI
  obtain ⟨mcL, hlL⟩ := w_lands hw
  obtain ⟨mcG, hlG⟩ := w_gates hw
  obtain ⟨mcS, hlS⟩ := w_sleepers hw
  obtain ⟨mcP, hlP⟩ := w_parts hw
  obtain ⟨mcH, hlH⟩ := w_hidings hw
  refine jd_ct (ls := [some (.ref (β 0 0)), some (.int (nI l)), none, none]) rfl rfl (by decide) (Nat.le_of_ble_eq_true rfl) rfl ?_
  refine jd_iconst (v := 0) dX1_storeOf_0 (by decide) ?_
  refine jd_istore_n (ls' := [_, _, _, _]) dX1_storeOf_1 (Nat.le_of_ble_eq_true rfl) rfl rfl ?_
  refine jd_iconst (v := 0) dX1_storeOf_2 (by decide) ?_
  refine jd_istore_n (ls' := [_, _, _, _]) dX1_storeOf_3 (Nat.le_of_ble_eq_true rfl) rfl rfl ?_
  have lp4_1 : ∀ (j : Nat) (k : Nat) (hk0 : k + j = nP κ), jd_W G mX1_storeOf 3 (0) (0) 4 [some (.ref (β 0 0)), some (.int (nI l)), some (.int ((ll_cnt (fun p => pStore κ p = some l) k))), some (.int (nI k))] [] h (jd_pu h (.int (storeOf κ l))) jd_no := by
    intro j
    induction j with
    | zero =>
      intro k hk0
      obtain rfl : k = nP κ := by omega
      refine jd_iload_n dX1_storeOf_4 rfl ?_
      refine jd_aload_n dX1_storeOf_5 rfl ?_
      refine jd_get in_X1 ((w_this hw)) 3 q286 dX1_storeOf_6 rfl (Nat.le_of_ble_eq_true rfl) rfl ?_
      refine jd_pF (n := 0) (As := []) (rest := [.int (nI (nP κ))]) (ct_J2_size hlP (show nP κ ≤ 900 by omega)) (jd_rv hlP 15 rfl rfl) (ci := 15) rfl (List.mem_of_getElem? (i := 2) rfl) rfl q339 q342 q344 q83 q346 q341 q345 q343 q207 ⟨by decide, by decide, by decide +kernel⟩ dX1_storeOf_9 rfl rfl (Nat.le_of_ble_eq_true rfl) ⟨(Nat.le_of_ble_eq_true rfl), (Nat.le_of_ble_eq_true rfl)⟩ ?_
      refine jd_ncmp_ge (a := nP κ) (b := nP κ) (tgt := 51) dX1_storeOf_14 (by decide) (by omega) (by omega) (fun z2 => ?_) (fun z3 => ?_)
      · refine jd_iload_n dX1_storeOf_51 rfl ?_
        exact jd_iret dX1_storeOf_52 rfl ⟨rfl, rfl⟩
      · omega
    | succ j ih4 =>
      intro k hk0
      refine jd_iload_n dX1_storeOf_4 rfl ?_
      refine jd_aload_n dX1_storeOf_5 rfl ?_
      refine jd_get in_X1 ((w_this hw)) 3 q286 dX1_storeOf_6 rfl (Nat.le_of_ble_eq_true rfl) rfl ?_
      refine jd_pF (n := 0) (As := []) (rest := [.int (nI k)]) (ct_J2_size hlP (show nP κ ≤ 900 by omega)) (jd_rv hlP 15 rfl rfl) (ci := 15) rfl (List.mem_of_getElem? (i := 2) rfl) rfl q339 q342 q344 q83 q346 q341 q345 q343 q207 ⟨by decide, by decide, by decide +kernel⟩ dX1_storeOf_9 rfl rfl (Nat.le_of_ble_eq_true rfl) ⟨(Nat.le_of_ble_eq_true rfl), (Nat.le_of_ble_eq_true rfl)⟩ ?_
      refine jd_ncmp_ge (a := k) (b := nP κ) (tgt := 51) dX1_storeOf_14 (by decide) (by omega) (by omega) (fun z4 => ?_) (fun z5 => ?_)
      · omega
      · refine jd_iload_n dX1_storeOf_17 rfl ?_
        refine jd_aload_n dX1_storeOf_18 rfl ?_
        refine jd_get in_X1 ((w_this hw)) 3 q286 dX1_storeOf_19 rfl (Nat.le_of_ble_eq_true rfl) rfl ?_
        refine jd_iload_n dX1_storeOf_22 rfl ?_
        refine jd_pF (n := 1) (As := [.int (nI k)]) (rest := [.int ((ll_cnt (fun p => pStore κ p = some l) k))]) (ct_J2_get hlP (show nP κ ≤ 900 by omega) (k := k) (show k < nP κ by omega)) (jd_rv hlP 15 rfl rfl) (ci := 15) rfl (List.mem_of_getElem? (i := 1) rfl) rfl q320 q323 q325 q83 q327 q322 q326 q324 q207 ⟨by decide, by decide, by decide +kernel⟩ dX1_storeOf_23 rfl rfl (Nat.le_of_ble_eq_true rfl) ⟨(Nat.le_of_ble_eq_true rfl), (Nat.le_of_ble_eq_true rfl)⟩ ?_
        refine jd_castS (jd_rv (((w_part hw)) k (show k < nP κ by omega)) 5 rfl rfl) (ci := 5) rfl q377 dX1_storeOf_28 ?_
        refine jd_getN in_X11 (((w_part hw)) k (show k < nP κ by omega)) 4 q910 dX1_storeOf_31 rfl (Nat.le_of_ble_eq_true rfl) rfl ?_
        refine jd_iload_n dX1_storeOf_34 rfl ?_
        refine jd_mg2 43 (.int (jd_b ((pStore κ k = some l)))) (fun hj6 => ?_) ?_
        · refine jd_ocmp_ne (tgt := 42) dX1_storeOf_35 (by decide) (fun j hj => by have := ((hIp k (by omega)).2.1 j hj).1; omega) (by omega) (fun z7 => ?_) (fun z8 => ?_)
          · refine jd_iconst (v := 0) dX1_storeOf_42 (by decide) ?_
            exact jd_top (congrArg Value.int (jd_b0 z7).symm) hj6
          · refine jd_iconst (v := 1) dX1_storeOf_38 (by decide) ?_
            refine jd_goto (tgt := 43) dX1_storeOf_39 (by decide) ?_
            exact jd_top (congrArg Value.int (jd_b1 z8).symm) hj6
        · refine jd_iadd dX1_storeOf_43 ?_
          refine jd_istore_n (ls' := [_, _, _, _]) dX1_storeOf_44 (Nat.le_of_ble_eq_true rfl) rfl rfl ?_
          refine jd_iincN (n := 1) (ls' := [_, _, _, _]) dX1_storeOf_45 rfl (Nat.le_of_ble_eq_true rfl) rfl rfl ?_
          refine jd_goto (tgt := 4) dX1_storeOf_48 (by decide) ?_
          refine jd_lsub [some (.ref (β 0 0)), some (.int (nI l)), some (.int ((ll_cnt (fun p => pStore κ p = some l) (k + 1)))), some (.int (nI (k + 1)))] ⟨rfl, rfl, rfl, rfl, trivial⟩ ?_
          exact ih4 (k + 1) (by omega)
  refine jd_lsub [some (.ref (β 0 0)), some (.int (nI l)), some (.int ((ll_cnt (fun p => pStore κ p = some l) 0))), some (.int (nI 0))] ⟨rfl, rfl, rfl, rfl, trivial⟩ ?_
  exact lp4_1 (nP κ) 0 (by omega)

set_option maxRecDepth 20000 in
set_option maxHeartbeats 2000000 in
theorem ct_X1_sleepersIn {G : jd_G} {β : ll_B} {κ : ll_K} {h : jd_H} (hw : WC G β κ h) (hI : ll_I κ) (l : Nat) (hl : l < 2 ^ 31) : jd_Ct G mX1_sleepersIn 3 (0) (0) [.ref (β 0 0), .int (nI l)] h (jd_pu h (.int (sleepersIn κ l))) jd_no := by
  obtain ⟨⟨hG8, hS12, hP24, hH40, hN99, hH24⟩, hIg, hIs, hIp, hIh, hIl, hIq⟩ := id hI
  obtain ⟨mcL, hlL⟩ := w_lands hw
  obtain ⟨mcG, hlG⟩ := w_gates hw
  obtain ⟨mcS, hlS⟩ := w_sleepers hw
  obtain ⟨mcP, hlP⟩ := w_parts hw
  obtain ⟨mcH, hlH⟩ := w_hidings hw
  refine jd_ct (ls := [some (.ref (β 0 0)), some (.int (nI l)), none, none]) rfl rfl (by decide) (Nat.le_of_ble_eq_true rfl) rfl ?_
  refine jd_iconst (v := 0) dX1_sleepersIn_0 (by decide) ?_
  refine jd_istore_n (ls' := [_, _, _, _]) dX1_sleepersIn_1 (Nat.le_of_ble_eq_true rfl) rfl rfl ?_
  refine jd_iconst (v := 0) dX1_sleepersIn_2 (by decide) ?_
  refine jd_istore_n (ls' := [_, _, _, _]) dX1_sleepersIn_3 (Nat.le_of_ble_eq_true rfl) rfl rfl ?_
  have lp4_1 : ∀ (j : Nat) (k : Nat) (hk0 : k + j = nS κ), jd_W G mX1_sleepersIn 3 (0) (0) 4 [some (.ref (β 0 0)), some (.int (nI l)), some (.int ((ll_cnt (fun p => (sLand κ p = l) ∧ (¬ (sRest κ p = 2))) k))), some (.int (nI k))] [] h (jd_pu h (.int (sleepersIn κ l))) jd_no := by
    intro j
    induction j with
    | zero =>
      intro k hk0
      obtain rfl : k = nS κ := by omega
      refine jd_iload_n dX1_sleepersIn_4 rfl ?_
      refine jd_aload_n dX1_sleepersIn_5 rfl ?_
      refine jd_get in_X1 ((w_this hw)) 2 q285 dX1_sleepersIn_6 rfl (Nat.le_of_ble_eq_true rfl) rfl ?_
      refine jd_pF (n := 0) (As := []) (rest := [.int (nI (nS κ))]) (ct_J2_size hlS (show nS κ ≤ 900 by omega)) (jd_rv hlS 15 rfl rfl) (ci := 15) rfl (List.mem_of_getElem? (i := 2) rfl) rfl q339 q342 q344 q83 q346 q341 q345 q343 q207 ⟨by decide, by decide, by decide +kernel⟩ dX1_sleepersIn_9 rfl rfl (Nat.le_of_ble_eq_true rfl) ⟨(Nat.le_of_ble_eq_true rfl), (Nat.le_of_ble_eq_true rfl)⟩ ?_
      refine jd_ncmp_ge (a := nS κ) (b := nS κ) (tgt := 73) dX1_sleepersIn_14 (by decide) (by omega) (by omega) (fun z2 => ?_) (fun z3 => ?_)
      · refine jd_iload_n dX1_sleepersIn_73 rfl ?_
        exact jd_iret dX1_sleepersIn_74 rfl ⟨rfl, rfl⟩
      · omega
    | succ j ih4 =>
      intro k hk0
      have hs1 := fun (w : k < nS κ) => hIs k w
      refine jd_iload_n dX1_sleepersIn_4 rfl ?_
      refine jd_aload_n dX1_sleepersIn_5 rfl ?_
      refine jd_get in_X1 ((w_this hw)) 2 q285 dX1_sleepersIn_6 rfl (Nat.le_of_ble_eq_true rfl) rfl ?_
      refine jd_pF (n := 0) (As := []) (rest := [.int (nI k)]) (ct_J2_size hlS (show nS κ ≤ 900 by omega)) (jd_rv hlS 15 rfl rfl) (ci := 15) rfl (List.mem_of_getElem? (i := 2) rfl) rfl q339 q342 q344 q83 q346 q341 q345 q343 q207 ⟨by decide, by decide, by decide +kernel⟩ dX1_sleepersIn_9 rfl rfl (Nat.le_of_ble_eq_true rfl) ⟨(Nat.le_of_ble_eq_true rfl), (Nat.le_of_ble_eq_true rfl)⟩ ?_
      refine jd_ncmp_ge (a := k) (b := nS κ) (tgt := 73) dX1_sleepersIn_14 (by decide) (by omega) (by omega) (fun z4 => ?_) (fun z5 => ?_)
      · omega
      · refine jd_iload_n dX1_sleepersIn_17 rfl ?_
        refine jd_aload_n dX1_sleepersIn_18 rfl ?_
        refine jd_get in_X1 ((w_this hw)) 2 q285 dX1_sleepersIn_19 rfl (Nat.le_of_ble_eq_true rfl) rfl ?_
        refine jd_iload_n dX1_sleepersIn_22 rfl ?_
        refine jd_pF (n := 1) (As := [.int (nI k)]) (rest := [.int ((ll_cnt (fun p => (sLand κ p = l) ∧ (¬ (sRest κ p = 2))) k))]) (ct_J2_get hlS (show nS κ ≤ 900 by omega) (k := k) (show k < nS κ by omega)) (jd_rv hlS 15 rfl rfl) (ci := 15) rfl (List.mem_of_getElem? (i := 1) rfl) rfl q320 q323 q325 q83 q327 q322 q326 q324 q207 ⟨by decide, by decide, by decide +kernel⟩ dX1_sleepersIn_23 rfl rfl (Nat.le_of_ble_eq_true rfl) ⟨(Nat.le_of_ble_eq_true rfl), (Nat.le_of_ble_eq_true rfl)⟩ ?_
        refine jd_castS (jd_rv (((w_sleeper hw)) k (show k < nS κ by omega)) 4 rfl rfl) (ci := 4) rfl q352 dX1_sleepersIn_28 ?_
        refine jd_getN in_X9 (((w_sleeper hw)) k (show k < nS κ by omega)) 2 q854 dX1_sleepersIn_31 rfl (Nat.le_of_ble_eq_true rfl) rfl ?_
        refine jd_iload_n dX1_sleepersIn_34 rfl ?_
        refine jd_mg2 65 (.int (jd_b ((((sLand κ k) = l) ∧ (¬ ((sRest κ k = 2))))))) (fun hj6 => ?_) ?_
        · refine jd_ncmp_ne (a := (sLand κ k)) (b := l) (tgt := 64) dX1_sleepersIn_35 (by decide) (by omega) (by omega) (fun z7 => ?_) (fun z8 => ?_)
          · refine jd_iconst (v := 0) dX1_sleepersIn_64 (by decide) ?_
            exact jd_top (congrArg Value.int (jd_b0 (fun w => z7 w.1)).symm) hj6
          · refine jd_aload_n dX1_sleepersIn_38 rfl ?_
            refine jd_get in_X1 ((w_this hw)) 2 q285 dX1_sleepersIn_39 rfl (Nat.le_of_ble_eq_true rfl) rfl ?_
            refine jd_iload_n dX1_sleepersIn_42 rfl ?_
            refine jd_pF (n := 1) (As := [.int (nI k)]) (rest := [.int ((ll_cnt (fun p => (sLand κ p = l) ∧ (¬ (sRest κ p = 2))) k))]) (ct_J2_get hlS (show nS κ ≤ 900 by omega) (k := k) (show k < nS κ by omega)) (jd_rv hlS 15 rfl rfl) (ci := 15) rfl (List.mem_of_getElem? (i := 1) rfl) rfl q320 q323 q325 q83 q327 q322 q326 q324 q207 ⟨by decide, by decide, by decide +kernel⟩ dX1_sleepersIn_43 rfl rfl (Nat.le_of_ble_eq_true rfl) ⟨(Nat.le_of_ble_eq_true rfl), (Nat.le_of_ble_eq_true rfl)⟩ ?_
            refine jd_castS (jd_rv (((w_sleeper hw)) k (show k < nS κ by omega)) 4 rfl rfl) (ci := 4) rfl q352 dX1_sleepersIn_48 ?_
            refine jd_gets (jd_zR (k := 2) (by decide) rfl) q371 dX1_sleepersIn_51 ?_
            refine jd_pV (As := [.ref (jd_rA G 2)]) (rest := [.int ((ll_cnt (fun p => (sLand κ p = l) ∧ (¬ (sRest κ p = 2))) k))]) (ct_X9_is (((w_sleeper hw)) k (show k < nS κ by omega)) (r := sRest κ k) (q := 2) (by omega) (by decide)) (jd_rv (((w_sleeper hw)) k (show k < nS κ by omega)) 4 rfl rfl) rfl q355 q356 q357 q105 q358 nX9_is dX1_sleepersIn_54 rfl rfl rfl (Nat.le_of_ble_eq_true rfl) ⟨(Nat.le_of_ble_eq_true rfl), (Nat.le_of_ble_eq_true rfl)⟩ ?_
            refine jd_bif_ne (tgt := 64) dX1_sleepersIn_57 (by decide) (fun z9 => ?_) (fun z10 => ?_)
            · refine jd_iconst (v := 0) dX1_sleepersIn_64 (by decide) ?_
              exact jd_top (congrArg Value.int (jd_b0 (fun w => (fun w => w z9) w.2)).symm) hj6
            · refine jd_iconst (v := 1) dX1_sleepersIn_60 (by decide) ?_
              refine jd_goto (tgt := 65) dX1_sleepersIn_61 (by decide) ?_
              exact jd_top (congrArg Value.int (jd_b1 ⟨z8, z10⟩).symm) hj6
        · refine jd_iadd dX1_sleepersIn_65 ?_
          refine jd_istore_n (ls' := [_, _, _, _]) dX1_sleepersIn_66 (Nat.le_of_ble_eq_true rfl) rfl rfl ?_
          refine jd_iincN (n := 1) (ls' := [_, _, _, _]) dX1_sleepersIn_67 rfl (Nat.le_of_ble_eq_true rfl) rfl rfl ?_
          refine jd_goto (tgt := 4) dX1_sleepersIn_70 (by decide) ?_
          refine jd_lsub [some (.ref (β 0 0)), some (.int (nI l)), some (.int ((ll_cnt (fun p => (sLand κ p = l) ∧ (¬ (sRest κ p = 2))) (k + 1)))), some (.int (nI (k + 1)))] ⟨rfl, rfl, rfl, rfl, trivial⟩ ?_
          exact ih4 (k + 1) (by omega)
  refine jd_lsub [some (.ref (β 0 0)), some (.int (nI l)), some (.int ((ll_cnt (fun p => (sLand κ p = l) ∧ (¬ (sRest κ p = 2))) 0))), some (.int (nI 0))] ⟨rfl, rfl, rfl, rfl, trivial⟩ ?_
  exact lp4_1 (nS κ) 0 (by omega)

set_option maxRecDepth 20000 in
set_option maxHeartbeats 2000000 in
theorem ct_X1_awake {G : jd_G} {β : ll_B} {κ : ll_K} {h : jd_H} (hw : WC G β κ h) (hI : ll_I κ)  : jd_Ct G mX1_awake 3 (0) (0) [.ref (β 0 0)] h (jd_pu h (.int (awakeN κ))) jd_no := by
  obtain ⟨⟨hG8, hS12, hP24, hH40, hN99, hH24⟩, hIg, hIs, hIp, hIh, hIl, hIq⟩ := id hI
  obtain ⟨mcL, hlL⟩ := w_lands hw
  obtain ⟨mcG, hlG⟩ := w_gates hw
  obtain ⟨mcS, hlS⟩ := w_sleepers hw
  obtain ⟨mcP, hlP⟩ := w_parts hw
  obtain ⟨mcH, hlH⟩ := w_hidings hw
  refine jd_ct (ls := [some (.ref (β 0 0)), none, none]) rfl rfl (by decide) (Nat.le_of_ble_eq_true rfl) rfl ?_
  refine jd_iconst (v := 0) dX1_awake_0 (by decide) ?_
  refine jd_istore_n (ls' := [_, _, _]) dX1_awake_1 (Nat.le_of_ble_eq_true rfl) rfl rfl ?_
  refine jd_iconst (v := 0) dX1_awake_2 (by decide) ?_
  refine jd_istore_n (ls' := [_, _, _]) dX1_awake_3 (Nat.le_of_ble_eq_true rfl) rfl rfl ?_
  have lp4_1 : ∀ (j : Nat) (k : Nat) (hk0 : k + j = nS κ), jd_W G mX1_awake 3 (0) (0) 4 [some (.ref (β 0 0)), some (.int ((ll_cnt (fun p => sRest κ p = 2) k))), some (.int (nI k))] [] h (jd_pu h (.int (awakeN κ))) jd_no := by
    intro j
    induction j with
    | zero =>
      intro k hk0
      obtain rfl : k = nS κ := by omega
      refine jd_iload_n dX1_awake_4 rfl ?_
      refine jd_aload_n dX1_awake_5 rfl ?_
      refine jd_get in_X1 ((w_this hw)) 2 q285 dX1_awake_6 rfl (Nat.le_of_ble_eq_true rfl) rfl ?_
      refine jd_pF (n := 0) (As := []) (rest := [.int (nI (nS κ))]) (ct_J2_size hlS (show nS κ ≤ 900 by omega)) (jd_rv hlS 15 rfl rfl) (ci := 15) rfl (List.mem_of_getElem? (i := 2) rfl) rfl q339 q342 q344 q83 q346 q341 q345 q343 q207 ⟨by decide, by decide, by decide +kernel⟩ dX1_awake_9 rfl rfl (Nat.le_of_ble_eq_true rfl) ⟨(Nat.le_of_ble_eq_true rfl), (Nat.le_of_ble_eq_true rfl)⟩ ?_
      refine jd_ncmp_ge (a := nS κ) (b := nS κ) (tgt := 53) dX1_awake_14 (by decide) (by omega) (by omega) (fun z2 => ?_) (fun z3 => ?_)
      · refine jd_iload_n dX1_awake_53 rfl ?_
        exact jd_iret dX1_awake_54 rfl ⟨rfl, rfl⟩
      · omega
    | succ j ih4 =>
      intro k hk0
      have hs1 := fun (w : k < nS κ) => hIs k w
      refine jd_iload_n dX1_awake_4 rfl ?_
      refine jd_aload_n dX1_awake_5 rfl ?_
      refine jd_get in_X1 ((w_this hw)) 2 q285 dX1_awake_6 rfl (Nat.le_of_ble_eq_true rfl) rfl ?_
      refine jd_pF (n := 0) (As := []) (rest := [.int (nI k)]) (ct_J2_size hlS (show nS κ ≤ 900 by omega)) (jd_rv hlS 15 rfl rfl) (ci := 15) rfl (List.mem_of_getElem? (i := 2) rfl) rfl q339 q342 q344 q83 q346 q341 q345 q343 q207 ⟨by decide, by decide, by decide +kernel⟩ dX1_awake_9 rfl rfl (Nat.le_of_ble_eq_true rfl) ⟨(Nat.le_of_ble_eq_true rfl), (Nat.le_of_ble_eq_true rfl)⟩ ?_
      refine jd_ncmp_ge (a := k) (b := nS κ) (tgt := 53) dX1_awake_14 (by decide) (by omega) (by omega) (fun z4 => ?_) (fun z5 => ?_)
      · omega
      · refine jd_iload_n dX1_awake_17 rfl ?_
        refine jd_aload_n dX1_awake_18 rfl ?_
        refine jd_get in_X1 ((w_this hw)) 2 q285 dX1_awake_19 rfl (Nat.le_of_ble_eq_true rfl) rfl ?_
        refine jd_iload_n dX1_awake_22 rfl ?_
        refine jd_pF (n := 1) (As := [.int (nI k)]) (rest := [.int ((ll_cnt (fun p => sRest κ p = 2) k))]) (ct_J2_get hlS (show nS κ ≤ 900 by omega) (k := k) (show k < nS κ by omega)) (jd_rv hlS 15 rfl rfl) (ci := 15) rfl (List.mem_of_getElem? (i := 1) rfl) rfl q320 q323 q325 q83 q327 q322 q326 q324 q207 ⟨by decide, by decide, by decide +kernel⟩ dX1_awake_23 rfl rfl (Nat.le_of_ble_eq_true rfl) ⟨(Nat.le_of_ble_eq_true rfl), (Nat.le_of_ble_eq_true rfl)⟩ ?_
        refine jd_castS (jd_rv (((w_sleeper hw)) k (show k < nS κ by omega)) 4 rfl rfl) (ci := 4) rfl q352 dX1_awake_28 ?_
        refine jd_gets (jd_zR (k := 2) (by decide) rfl) q371 dX1_awake_31 ?_
        refine jd_pV (As := [.ref (jd_rA G 2)]) (rest := [.int ((ll_cnt (fun p => sRest κ p = 2) k))]) (ct_X9_is (((w_sleeper hw)) k (show k < nS κ by omega)) (r := sRest κ k) (q := 2) (by omega) (by decide)) (jd_rv (((w_sleeper hw)) k (show k < nS κ by omega)) 4 rfl rfl) rfl q355 q356 q357 q105 q358 nX9_is dX1_awake_34 rfl rfl rfl (Nat.le_of_ble_eq_true rfl) ⟨(Nat.le_of_ble_eq_true rfl), (Nat.le_of_ble_eq_true rfl)⟩ ?_
        refine jd_mg1 45 (.int (jd_b (((sRest κ k = 2))))) (fun hj6 => ?_) ?_
        · refine jd_bif_eq (tgt := 44) dX1_awake_37 (by decide) (fun z7 => ?_) (fun z8 => ?_)
          · refine jd_iconst (v := 0) dX1_awake_44 (by decide) ?_
            exact jd_top (congrArg Value.int (jd_b0 z7).symm) hj6
          · refine jd_iconst (v := 1) dX1_awake_40 (by decide) ?_
            refine jd_goto (tgt := 45) dX1_awake_41 (by decide) ?_
            exact jd_top (congrArg Value.int (jd_b1 z8).symm) hj6
        · refine jd_iadd dX1_awake_45 ?_
          refine jd_istore_n (ls' := [_, _, _]) dX1_awake_46 (Nat.le_of_ble_eq_true rfl) rfl rfl ?_
          refine jd_iincN (n := 1) (ls' := [_, _, _]) dX1_awake_47 rfl (Nat.le_of_ble_eq_true rfl) rfl rfl ?_
          refine jd_goto (tgt := 4) dX1_awake_50 (by decide) ?_
          refine jd_lsub [some (.ref (β 0 0)), some (.int ((ll_cnt (fun p => sRest κ p = 2) (k + 1)))), some (.int (nI (k + 1)))] ⟨rfl, rfl, rfl, trivial⟩ ?_
          exact ih4 (k + 1) (by omega)
  refine jd_lsub [some (.ref (β 0 0)), some (.int ((ll_cnt (fun p => sRest κ p = 2) 0))), some (.int (nI 0))] ⟨rfl, rfl, rfl, trivial⟩ ?_
  exact lp4_1 (nS κ) 0 (by omega)

set_option maxRecDepth 20000 in
set_option maxHeartbeats 2000000 in
theorem ct_X1_gone {G : jd_G} {β : ll_B} {κ : ll_K} {h : jd_H} (hw : WC G β κ h) (hI : ll_I κ)  : jd_Ct G mX1_gone 3 (0) (0) [.ref (β 0 0)] h (jd_pu h (.int (goneN κ))) jd_no := by
  obtain ⟨⟨hG8, hS12, hP24, hH40, hN99, hH24⟩, hIg, hIs, hIp, hIh, hIl, hIq⟩ := id hI
  obtain ⟨mcL, hlL⟩ := w_lands hw
  obtain ⟨mcG, hlG⟩ := w_gates hw
  obtain ⟨mcS, hlS⟩ := w_sleepers hw
  obtain ⟨mcP, hlP⟩ := w_parts hw
  obtain ⟨mcH, hlH⟩ := w_hidings hw
  refine jd_ct (ls := [some (.ref (β 0 0)), none, none]) rfl rfl (by decide) (Nat.le_of_ble_eq_true rfl) rfl ?_
  refine jd_iconst (v := 0) dX1_gone_0 (by decide) ?_
  refine jd_istore_n (ls' := [_, _, _]) dX1_gone_1 (Nat.le_of_ble_eq_true rfl) rfl rfl ?_
  refine jd_iconst (v := 0) dX1_gone_2 (by decide) ?_
  refine jd_istore_n (ls' := [_, _, _]) dX1_gone_3 (Nat.le_of_ble_eq_true rfl) rfl rfl ?_
  have lp4_1 : ∀ (j : Nat) (k : Nat) (hk0 : k + j = nP κ), jd_W G mX1_gone 3 (0) (0) 4 [some (.ref (β 0 0)), some (.int ((ll_cnt (fun p => (oI (pHead κ p) = -1) ∧ (oI (pStore κ p) = -1)) k))), some (.int (nI k))] [] h (jd_pu h (.int (goneN κ))) jd_no := by
    intro j
    induction j with
    | zero =>
      intro k hk0
      obtain rfl : k = nP κ := by omega
      refine jd_iload_n dX1_gone_4 rfl ?_
      refine jd_aload_n dX1_gone_5 rfl ?_
      refine jd_get in_X1 ((w_this hw)) 3 q286 dX1_gone_6 rfl (Nat.le_of_ble_eq_true rfl) rfl ?_
      refine jd_pF (n := 0) (As := []) (rest := [.int (nI (nP κ))]) (ct_J2_size hlP (show nP κ ≤ 900 by omega)) (jd_rv hlP 15 rfl rfl) (ci := 15) rfl (List.mem_of_getElem? (i := 2) rfl) rfl q339 q342 q344 q83 q346 q341 q345 q343 q207 ⟨by decide, by decide, by decide +kernel⟩ dX1_gone_9 rfl rfl (Nat.le_of_ble_eq_true rfl) ⟨(Nat.le_of_ble_eq_true rfl), (Nat.le_of_ble_eq_true rfl)⟩ ?_
      refine jd_ncmp_ge (a := nP κ) (b := nP κ) (tgt := 50) dX1_gone_14 (by decide) (by omega) (by omega) (fun z2 => ?_) (fun z3 => ?_)
      · refine jd_iload_n dX1_gone_50 rfl ?_
        exact jd_iret dX1_gone_51 rfl ⟨rfl, rfl⟩
      · omega
    | succ j ih4 =>
      intro k hk0
      refine jd_iload_n dX1_gone_4 rfl ?_
      refine jd_aload_n dX1_gone_5 rfl ?_
      refine jd_get in_X1 ((w_this hw)) 3 q286 dX1_gone_6 rfl (Nat.le_of_ble_eq_true rfl) rfl ?_
      refine jd_pF (n := 0) (As := []) (rest := [.int (nI k)]) (ct_J2_size hlP (show nP κ ≤ 900 by omega)) (jd_rv hlP 15 rfl rfl) (ci := 15) rfl (List.mem_of_getElem? (i := 2) rfl) rfl q339 q342 q344 q83 q346 q341 q345 q343 q207 ⟨by decide, by decide, by decide +kernel⟩ dX1_gone_9 rfl rfl (Nat.le_of_ble_eq_true rfl) ⟨(Nat.le_of_ble_eq_true rfl), (Nat.le_of_ble_eq_true rfl)⟩ ?_
      refine jd_ncmp_ge (a := k) (b := nP κ) (tgt := 50) dX1_gone_14 (by decide) (by omega) (by omega) (fun z4 => ?_) (fun z5 => ?_)
      · omega
      · refine jd_iload_n dX1_gone_17 rfl ?_
        refine jd_aload_n dX1_gone_18 rfl ?_
        refine jd_get in_X1 ((w_this hw)) 3 q286 dX1_gone_19 rfl (Nat.le_of_ble_eq_true rfl) rfl ?_
        refine jd_iload_n dX1_gone_22 rfl ?_
        refine jd_pF (n := 1) (As := [.int (nI k)]) (rest := [.int ((ll_cnt (fun p => (oI (pHead κ p) = -1) ∧ (oI (pStore κ p) = -1)) k))]) (ct_J2_get hlP (show nP κ ≤ 900 by omega) (k := k) (show k < nP κ by omega)) (jd_rv hlP 15 rfl rfl) (ci := 15) rfl (List.mem_of_getElem? (i := 1) rfl) rfl q320 q323 q325 q83 q327 q322 q326 q324 q207 ⟨by decide, by decide, by decide +kernel⟩ dX1_gone_23 rfl rfl (Nat.le_of_ble_eq_true rfl) ⟨(Nat.le_of_ble_eq_true rfl), (Nat.le_of_ble_eq_true rfl)⟩ ?_
        refine jd_castS (jd_rv (((w_part hw)) k (show k < nP κ by omega)) 5 rfl rfl) (ci := 5) rfl q377 dX1_gone_28 ?_
        refine jd_pV (As := []) (rest := [.int ((ll_cnt (fun p => (oI (pHead κ p) = -1) ∧ (oI (pStore κ p) = -1)) k))]) (ct_X11_isGone (((w_part hw)) k (show k < nP κ by omega))) (jd_rv (((w_part hw)) k (show k < nP κ by omega)) 5 rfl rfl) rfl q406 q407 q408 q110 q409 nX11_isGone dX1_gone_31 rfl rfl rfl (Nat.le_of_ble_eq_true rfl) ⟨(Nat.le_of_ble_eq_true rfl), (Nat.le_of_ble_eq_true rfl)⟩ ?_
        refine jd_mg1 42 (.int (jd_b ((((((oI (pHead κ k))) = (-1)) ∧ (((oI (pStore κ k))) = (-1))))))) (fun hj6 => ?_) ?_
        · refine jd_bif_eq (tgt := 41) dX1_gone_34 (by decide) (fun z7 => ?_) (fun z8 => ?_)
          · refine jd_iconst (v := 0) dX1_gone_41 (by decide) ?_
            exact jd_top (congrArg Value.int (jd_b0 z7).symm) hj6
          · refine jd_iconst (v := 1) dX1_gone_37 (by decide) ?_
            refine jd_goto (tgt := 42) dX1_gone_38 (by decide) ?_
            exact jd_top (congrArg Value.int (jd_b1 z8).symm) hj6
        · refine jd_iadd dX1_gone_42 ?_
          refine jd_istore_n (ls' := [_, _, _]) dX1_gone_43 (Nat.le_of_ble_eq_true rfl) rfl rfl ?_
          refine jd_iincN (n := 1) (ls' := [_, _, _]) dX1_gone_44 rfl (Nat.le_of_ble_eq_true rfl) rfl rfl ?_
          refine jd_goto (tgt := 4) dX1_gone_47 (by decide) ?_
          refine jd_lsub [some (.ref (β 0 0)), some (.int ((ll_cnt (fun p => (oI (pHead κ p) = -1) ∧ (oI (pStore κ p) = -1)) (k + 1)))), some (.int (nI (k + 1)))] ⟨rfl, rfl, rfl, trivial⟩ ?_
          exact ih4 (k + 1) (by omega)
  refine jd_lsub [some (.ref (β 0 0)), some (.int ((ll_cnt (fun p => (oI (pHead κ p) = -1) ∧ (oI (pStore κ p) = -1)) 0))), some (.int (nI 0))] ⟨rfl, rfl, rfl, trivial⟩ ?_
  exact lp4_1 (nP κ) 0 (by omega)

set_option maxRecDepth 20000 in
set_option maxHeartbeats 2000000 in
theorem ct_X1_withFate {G : jd_G} {β : ll_B} {κ : ll_K} {h : jd_H} (hw : WC G β κ h) (hI : ll_I κ) (f : Nat) (hf : f < 2 ^ 31) : jd_Ct G mX1_withFate 3 (0) (0) [.ref (β 0 0), .int (nI f)] h (jd_pu h (.int (withFate κ f))) jd_no := by
  obtain ⟨⟨hG8, hS12, hP24, hH40, hN99, hH24⟩, hIg, hIs, hIp, hIh, hIl, hIq⟩ := id hI
  obtain ⟨mcL, hlL⟩ := w_lands hw
  obtain ⟨mcG, hlG⟩ := w_gates hw
  obtain ⟨mcS, hlS⟩ := w_sleepers hw
  obtain ⟨mcP, hlP⟩ := w_parts hw
  obtain ⟨mcH, hlH⟩ := w_hidings hw
  refine jd_ct (ls := [some (.ref (β 0 0)), some (.int (nI f)), none, none]) rfl rfl (by decide) (Nat.le_of_ble_eq_true rfl) rfl ?_
  refine jd_iconst (v := 0) dX1_withFate_0 (by decide) ?_
  refine jd_istore_n (ls' := [_, _, _, _]) dX1_withFate_1 (Nat.le_of_ble_eq_true rfl) rfl rfl ?_
  refine jd_iconst (v := 0) dX1_withFate_2 (by decide) ?_
  refine jd_istore_n (ls' := [_, _, _, _]) dX1_withFate_3 (Nat.le_of_ble_eq_true rfl) rfl rfl ?_
  have lp4_1 : ∀ (j : Nat) (k : Nat) (hk0 : k + j = nP κ), jd_W G mX1_withFate 3 (0) (0) 4 [some (.ref (β 0 0)), some (.int (nI f)), some (.int ((ll_cnt (fun p => pFate κ p = f) k))), some (.int (nI k))] [] h (jd_pu h (.int (withFate κ f))) jd_no := by
    intro j
    induction j with
    | zero =>
      intro k hk0
      obtain rfl : k = nP κ := by omega
      refine jd_iload_n dX1_withFate_4 rfl ?_
      refine jd_aload_n dX1_withFate_5 rfl ?_
      refine jd_get in_X1 ((w_this hw)) 3 q286 dX1_withFate_6 rfl (Nat.le_of_ble_eq_true rfl) rfl ?_
      refine jd_pF (n := 0) (As := []) (rest := [.int (nI (nP κ))]) (ct_J2_size hlP (show nP κ ≤ 900 by omega)) (jd_rv hlP 15 rfl rfl) (ci := 15) rfl (List.mem_of_getElem? (i := 2) rfl) rfl q339 q342 q344 q83 q346 q341 q345 q343 q207 ⟨by decide, by decide, by decide +kernel⟩ dX1_withFate_9 rfl rfl (Nat.le_of_ble_eq_true rfl) ⟨(Nat.le_of_ble_eq_true rfl), (Nat.le_of_ble_eq_true rfl)⟩ ?_
      refine jd_ncmp_ge (a := nP κ) (b := nP κ) (tgt := 54) dX1_withFate_14 (by decide) (by omega) (by omega) (fun z2 => ?_) (fun z3 => ?_)
      · refine jd_iload_n dX1_withFate_54 rfl ?_
        exact jd_iret dX1_withFate_55 rfl ⟨rfl, rfl⟩
      · omega
    | succ j ih4 =>
      intro k hk0
      have hp1 := fun (w : k < nP κ) => hIp k w
      refine jd_iload_n dX1_withFate_4 rfl ?_
      refine jd_aload_n dX1_withFate_5 rfl ?_
      refine jd_get in_X1 ((w_this hw)) 3 q286 dX1_withFate_6 rfl (Nat.le_of_ble_eq_true rfl) rfl ?_
      refine jd_pF (n := 0) (As := []) (rest := [.int (nI k)]) (ct_J2_size hlP (show nP κ ≤ 900 by omega)) (jd_rv hlP 15 rfl rfl) (ci := 15) rfl (List.mem_of_getElem? (i := 2) rfl) rfl q339 q342 q344 q83 q346 q341 q345 q343 q207 ⟨by decide, by decide, by decide +kernel⟩ dX1_withFate_9 rfl rfl (Nat.le_of_ble_eq_true rfl) ⟨(Nat.le_of_ble_eq_true rfl), (Nat.le_of_ble_eq_true rfl)⟩ ?_
      refine jd_ncmp_ge (a := k) (b := nP κ) (tgt := 54) dX1_withFate_14 (by decide) (by omega) (by omega) (fun z4 => ?_) (fun z5 => ?_)
      · omega
      · refine jd_iload_n dX1_withFate_17 rfl ?_
        refine jd_aload_n dX1_withFate_18 rfl ?_
        refine jd_get in_X1 ((w_this hw)) 3 q286 dX1_withFate_19 rfl (Nat.le_of_ble_eq_true rfl) rfl ?_
        refine jd_iload_n dX1_withFate_22 rfl ?_
        refine jd_pF (n := 1) (As := [.int (nI k)]) (rest := [.int ((ll_cnt (fun p => pFate κ p = f) k))]) (ct_J2_get hlP (show nP κ ≤ 900 by omega) (k := k) (show k < nP κ by omega)) (jd_rv hlP 15 rfl rfl) (ci := 15) rfl (List.mem_of_getElem? (i := 1) rfl) rfl q320 q323 q325 q83 q327 q322 q326 q324 q207 ⟨by decide, by decide, by decide +kernel⟩ dX1_withFate_23 rfl rfl (Nat.le_of_ble_eq_true rfl) ⟨(Nat.le_of_ble_eq_true rfl), (Nat.le_of_ble_eq_true rfl)⟩ ?_
        refine jd_castS (jd_rv (((w_part hw)) k (show k < nP κ by omega)) 5 rfl rfl) (ci := 5) rfl q377 dX1_withFate_28 ?_
        refine jd_getN in_X11 (((w_part hw)) k (show k < nP κ by omega)) 5 q912 dX1_withFate_31 rfl (Nat.le_of_ble_eq_true rfl) rfl ?_
        refine jd_pU (n := 0) (As := []) (rest := [.int ((ll_cnt (fun p => pFate κ p = f) k))]) (ct_J16_ordinalF (k := pFate κ k) (by first | assumption | omega)) (jd_rvF (k := pFate κ k) (by first | assumption | omega)) rfl q418 q419 q421 q422 q106 q423 ⟨by decide, by decide, by decide +kernel⟩ rfl dX1_withFate_34 rfl rfl (Nat.le_of_ble_eq_true rfl) ⟨(Nat.le_of_ble_eq_true rfl), (Nat.le_of_ble_eq_true rfl)⟩ ?_
        refine jd_iload_n dX1_withFate_37 rfl ?_
        refine jd_mg2 46 (.int (jd_b ((pFate κ k = f)))) (fun hj6 => ?_) ?_
        · refine jd_ncmp_ne (a := pFate κ k) (b := f) (tgt := 45) dX1_withFate_38 (by decide) (by omega) (by omega) (fun z7 => ?_) (fun z8 => ?_)
          · refine jd_iconst (v := 0) dX1_withFate_45 (by decide) ?_
            exact jd_top (congrArg Value.int (jd_b0 z7).symm) hj6
          · refine jd_iconst (v := 1) dX1_withFate_41 (by decide) ?_
            refine jd_goto (tgt := 46) dX1_withFate_42 (by decide) ?_
            exact jd_top (congrArg Value.int (jd_b1 z8).symm) hj6
        · refine jd_iadd dX1_withFate_46 ?_
          refine jd_istore_n (ls' := [_, _, _, _]) dX1_withFate_47 (Nat.le_of_ble_eq_true rfl) rfl rfl ?_
          refine jd_iincN (n := 1) (ls' := [_, _, _, _]) dX1_withFate_48 rfl (Nat.le_of_ble_eq_true rfl) rfl rfl ?_
          refine jd_goto (tgt := 4) dX1_withFate_51 (by decide) ?_
          refine jd_lsub [some (.ref (β 0 0)), some (.int (nI f)), some (.int ((ll_cnt (fun p => pFate κ p = f) (k + 1)))), some (.int (nI (k + 1)))] ⟨rfl, rfl, rfl, rfl, trivial⟩ ?_
          exact ih4 (k + 1) (by omega)
  refine jd_lsub [some (.ref (β 0 0)), some (.int (nI f)), some (.int ((ll_cnt (fun p => pFate κ p = f) 0))), some (.int (nI 0))] ⟨rfl, rfl, rfl, rfl, trivial⟩ ?_
  exact lp4_1 (nP κ) 0 (by omega)

set_option maxRecDepth 20000 in
set_option maxHeartbeats 2000000 in
theorem ct_X1_ofAllLands {G : jd_G} {β : ll_B} {κ : ll_K} {h : jd_H} (hw : WC G β κ h) (hI : ll_I κ) (B : Prop) [Decidable B] : jd_Ct G mX1_ofAllLands 3 (0) (0) [.ref (β 0 0), .int (jd_b (B))] h (jd_pu h (.int (ll_sum (fun k => if B then lFin κ k else lDut κ k) 6))) jd_no := by
  obtain ⟨⟨hG8, hS12, hP24, hH40, hN99, hH24⟩, hIg, hIs, hIp, hIh, hIl, hIq⟩ := id hI
  obtain ⟨mcL, hlL⟩ := w_lands hw
  obtain ⟨mcG, hlG⟩ := w_gates hw
  obtain ⟨mcS, hlS⟩ := w_sleepers hw
  obtain ⟨mcP, hlP⟩ := w_parts hw
  obtain ⟨mcH, hlH⟩ := w_hidings hw
  refine jd_ct (ls := [some (.ref (β 0 0)), some (.int (jd_b (B))), none, none]) rfl rfl (by decide) (Nat.le_of_ble_eq_true rfl) rfl ?_
  refine jd_iconst (v := 0) dX1_ofAllLands_0 (by decide) ?_
  refine jd_istore_n (ls' := [_, _, _, _]) dX1_ofAllLands_1 (Nat.le_of_ble_eq_true rfl) rfl rfl ?_
  refine jd_iconst (v := 0) dX1_ofAllLands_2 (by decide) ?_
  refine jd_istore_n (ls' := [_, _, _, _]) dX1_ofAllLands_3 (Nat.le_of_ble_eq_true rfl) rfl rfl ?_
  have lp4_1 : ∀ (j : Nat) (k : Nat) (hk0 : k + j = 6), jd_W G mX1_ofAllLands 3 (0) (0) 4 [some (.ref (β 0 0)), some (.int (jd_b (B))), some (.int ((ll_sum (fun p => if B then lFin κ p else lDut κ p) k))), some (.int (nI k))] [] h (jd_pu h (.int (ll_sum (fun k => if B then lFin κ k else lDut κ k) 6))) jd_no := by
    intro j
    induction j with
    | zero =>
      intro k hk0
      obtain rfl : k = 6 := by omega
      refine jd_iload_n dX1_ofAllLands_4 rfl ?_
      refine jd_bipush (v := 6) dX1_ofAllLands_5 (by decide) ?_
      refine jd_ncmp_ge (a := 6) (b := 6) (tgt := 58) dX1_ofAllLands_7 (by decide) (by omega) (by omega) (fun z2 => ?_) (fun z3 => ?_)
      · refine jd_iload_n dX1_ofAllLands_58 rfl ?_
        exact jd_iret dX1_ofAllLands_59 rfl ⟨rfl, rfl⟩
      · omega
    | succ j ih4 =>
      intro k hk0
      refine jd_iload_n dX1_ofAllLands_4 rfl ?_
      refine jd_bipush (v := 6) dX1_ofAllLands_5 (by decide) ?_
      refine jd_ncmp_ge (a := k) (b := 6) (tgt := 58) dX1_ofAllLands_7 (by decide) (by omega) (by omega) (fun z4 => ?_) (fun z5 => ?_)
      · omega
      · refine jd_iload_n dX1_ofAllLands_10 rfl ?_
        refine jd_iload_n dX1_ofAllLands_11 rfl ?_
        refine jd_mg1 50 (.int ((if B then (lFin κ k) else (lDut κ k)))) (fun hj6 => ?_) ?_
        · refine jd_bif_eq (tgt := 34) dX1_ofAllLands_12 (by decide) (fun z7 => ?_) (fun z8 => ?_)
          · refine jd_aload_n dX1_ofAllLands_34 rfl ?_
            refine jd_get in_X1 ((w_this hw)) 0 q283 dX1_ofAllLands_35 rfl (Nat.le_of_ble_eq_true rfl) rfl ?_
            refine jd_iload_n dX1_ofAllLands_38 rfl ?_
            refine jd_pF (n := 1) (As := [.int (nI k)]) (rest := [.int ((ll_sum (fun p => if B then lFin κ p else lDut κ p) k))]) (ct_J2_get hlL (show 6 ≤ 900 by omega) (k := k) (show k < 6 by omega)) (jd_rv hlL 15 rfl rfl) (ci := 15) rfl (List.mem_of_getElem? (i := 1) rfl) rfl q320 q323 q325 q83 q327 q322 q326 q324 q207 ⟨by decide, by decide, by decide +kernel⟩ dX1_ofAllLands_39 rfl rfl (Nat.le_of_ble_eq_true rfl) ⟨(Nat.le_of_ble_eq_true rfl), (Nat.le_of_ble_eq_true rfl)⟩ ?_
            refine jd_castS (jd_rv (((w_land hw)) k (show k < 6 by omega)) 2 rfl rfl) (ci := 2) rfl q175 dX1_ofAllLands_44 ?_
            refine jd_getN in_X3 (((w_land hw)) k (show k < 6 by omega)) 4 q188 dX1_ofAllLands_47 rfl (Nat.le_of_ble_eq_true rfl) rfl ?_
            exact jd_top (congrArg Value.int (by rw [if_neg z7])) hj6
          · refine jd_aload_n dX1_ofAllLands_15 rfl ?_
            refine jd_get in_X1 ((w_this hw)) 0 q283 dX1_ofAllLands_16 rfl (Nat.le_of_ble_eq_true rfl) rfl ?_
            refine jd_iload_n dX1_ofAllLands_19 rfl ?_
            refine jd_pF (n := 1) (As := [.int (nI k)]) (rest := [.int ((ll_sum (fun p => if B then lFin κ p else lDut κ p) k))]) (ct_J2_get hlL (show 6 ≤ 900 by omega) (k := k) (show k < 6 by omega)) (jd_rv hlL 15 rfl rfl) (ci := 15) rfl (List.mem_of_getElem? (i := 1) rfl) rfl q320 q323 q325 q83 q327 q322 q326 q324 q207 ⟨by decide, by decide, by decide +kernel⟩ dX1_ofAllLands_20 rfl rfl (Nat.le_of_ble_eq_true rfl) ⟨(Nat.le_of_ble_eq_true rfl), (Nat.le_of_ble_eq_true rfl)⟩ ?_
            refine jd_castS (jd_rv (((w_land hw)) k (show k < 6 by omega)) 2 rfl rfl) (ci := 2) rfl q175 dX1_ofAllLands_25 ?_
            refine jd_getN in_X3 (((w_land hw)) k (show k < 6 by omega)) 5 q189 dX1_ofAllLands_28 rfl (Nat.le_of_ble_eq_true rfl) rfl ?_
            refine jd_goto (tgt := 50) dX1_ofAllLands_31 (by decide) ?_
            exact jd_top (congrArg Value.int (by rw [if_pos z8])) hj6
        · refine jd_iadd dX1_ofAllLands_50 ?_
          refine jd_istore_n (ls' := [_, _, _, _]) dX1_ofAllLands_51 (Nat.le_of_ble_eq_true rfl) rfl rfl ?_
          refine jd_iincN (n := 1) (ls' := [_, _, _, _]) dX1_ofAllLands_52 rfl (Nat.le_of_ble_eq_true rfl) rfl rfl ?_
          refine jd_goto (tgt := 4) dX1_ofAllLands_55 (by decide) ?_
          refine jd_lsub [some (.ref (β 0 0)), some (.int (jd_b (B))), some (.int ((ll_sum (fun p => if B then lFin κ p else lDut κ p) (k + 1)))), some (.int (nI (k + 1)))] ⟨rfl, rfl, rfl, rfl, trivial⟩ ?_
          exact ih4 (k + 1) (by omega)
  refine jd_lsub [some (.ref (β 0 0)), some (.int (jd_b (B))), some (.int ((ll_sum (fun p => if B then lFin κ p else lDut κ p) 0))), some (.int (nI 0))] ⟨rfl, rfl, rfl, rfl, trivial⟩ ?_
  exact lp4_1 (6) 0 (by omega)

set_option maxRecDepth 20000 in
set_option maxHeartbeats 2000000 in
theorem ct_X1_landOf {G : jd_G} {β : ll_B} {κ : ll_K} {h : jd_H} (hw : WC G β κ h) (hI : ll_I κ) (p : Nat) (hp : p < nP κ) : jd_Ct G mX1_landOf 3 (0) (0) [.ref (β 0 0), .ref (β 8 p)] h (jd_pu h (.int (oI (ll_land κ p)))) jd_no := by
  obtain ⟨⟨hG8, hS12, hP24, hH40, hN99, hH24⟩, hIg, hIs, hIp, hIh, hIl, hIq⟩ := id hI
  obtain ⟨mcL, hlL⟩ := w_lands hw
  obtain ⟨mcG, hlG⟩ := w_gates hw
  obtain ⟨mcS, hlS⟩ := w_sleepers hw
  obtain ⟨mcP, hlP⟩ := w_parts hw
  obtain ⟨mcH, hlH⟩ := w_hidings hw
  refine jd_ct (ls := [some (.ref (β 0 0)), some (.ref (β 8 p))]) rfl rfl (by decide) (Nat.le_of_ble_eq_true rfl) rfl ?_
  refine jd_aload_n dX1_landOf_0 rfl ?_
  refine jd_getN in_X11 (((w_part hw)) p (show p < nP κ by omega)) 4 q910 dX1_landOf_1 rfl (Nat.le_of_ble_eq_true rfl) rfl ?_
  refine jd_iconst (v := (-1)) dX1_landOf_4 (by decide) ?_
  refine jd_ocmpN_eq (tgt := 15) dX1_landOf_5 (by decide) (fun j hj => by have := ((hIp p (by omega)).2.1 j hj).1; omega) (fun z1 => ?_) (fun z2 => ?_)
  · refine jd_aload_n dX1_landOf_15 rfl ?_
    refine jd_getN in_X11 (((w_part hw)) p (show p < nP κ by omega)) 3 q908 dX1_landOf_16 rfl (Nat.le_of_ble_eq_true rfl) rfl ?_
    refine jd_iconst (v := (-1)) dX1_landOf_19 (by decide) ?_
    refine jd_ocmpN_eq (tgt := 45) dX1_landOf_20 (by decide) (fun j hj => by have := (hIp p (by omega)).1 j hj; omega) (fun z3 => ?_) (fun z4 => ?_)
    · refine jd_iconst (v := (-1)) dX1_landOf_45 (by decide) ?_
      exact jd_iret dX1_landOf_46 rfl ⟨by rcases h1 : pStore κ p with _ | l <;> rcases h2 : pHead κ p with _ | s <;> simp_all [ll_land, oI], rfl⟩
    · obtain ⟨sj, hsj⟩ := Option.ne_none_iff_exists'.mp z4
      have hsl := (hIp p hp).1 sj hsj
      have hs1 := (hIs sj hsl).1
      refine jd_aload_n dX1_landOf_23 rfl ?_
      refine jd_get in_X1 ((w_this hw)) 2 q285 dX1_landOf_24 rfl (Nat.le_of_ble_eq_true rfl) rfl ?_
      refine jd_aload_n dX1_landOf_27 rfl ?_
      refine jd_getN in_X11 (((w_part hw)) p (show p < nP κ by omega)) 3 q908 dX1_landOf_28 rfl (Nat.le_of_ble_eq_true rfl) rfl ?_
      refine jd_top (w := .int (nI sj)) (congrArg Value.int (by rw [hsj]; rfl)) ?_
      refine jd_pF (n := 1) (As := [.int (nI sj)]) (rest := []) (ct_J2_get hlS (show nS κ ≤ 900 by omega) (k := sj) (show sj < nS κ by omega)) (jd_rv hlS 15 rfl rfl) (ci := 15) rfl (List.mem_of_getElem? (i := 1) rfl) rfl q320 q323 q325 q83 q327 q322 q326 q324 q207 ⟨by decide, by decide, by decide +kernel⟩ dX1_landOf_31 rfl rfl (Nat.le_of_ble_eq_true rfl) ⟨(Nat.le_of_ble_eq_true rfl), (Nat.le_of_ble_eq_true rfl)⟩ ?_
      refine jd_castS (jd_rv (((w_sleeper hw)) sj (show sj < nS κ by omega)) 4 rfl rfl) (ci := 4) rfl q352 dX1_landOf_36 ?_
      refine jd_getN in_X9 (((w_sleeper hw)) sj (show sj < nS κ by omega)) 2 q854 dX1_landOf_39 rfl (Nat.le_of_ble_eq_true rfl) rfl ?_
      refine jd_goto (tgt := 46) dX1_landOf_42 (by decide) ?_
      exact jd_iret dX1_landOf_46 rfl ⟨by rcases h1 : pStore κ p with _ | l <;> rcases h2 : pHead κ p with _ | s <;> simp_all [ll_land, oI], rfl⟩
  · refine jd_aload_n dX1_landOf_8 rfl ?_
    refine jd_getN in_X11 (((w_part hw)) p (show p < nP κ by omega)) 4 q910 dX1_landOf_9 rfl (Nat.le_of_ble_eq_true rfl) rfl ?_
    refine jd_goto (tgt := 46) dX1_landOf_12 (by decide) ?_
    exact jd_iret dX1_landOf_46 rfl ⟨by rcases h1 : pStore κ p with _ | l <;> rcases h2 : pHead κ p with _ | s <;> simp_all [ll_land, oI], rfl⟩

set_option maxRecDepth 20000 in
set_option maxHeartbeats 2000000 in
theorem ct_X1_allowed {G : jd_G} {β : ll_B} {κ : ll_K} {h : jd_H} (hw : WC G β κ h) (hI : ll_I κ) (D : Int32) (l : Nat) (hl : l < 6) : jd_Ct G mX1_allowed 3 (0) (0) [.ref (β 0 0), .int (D), .ref (β 1 l)] h (jd_pu h (.int (allowed κ D l))) jd_no := by
  obtain ⟨⟨hG8, hS12, hP24, hH40, hN99, hH24⟩, hIg, hIs, hIp, hIh, hIl, hIq⟩ := id hI
  obtain ⟨mcL, hlL⟩ := w_lands hw
  obtain ⟨mcG, hlG⟩ := w_gates hw
  obtain ⟨mcS, hlS⟩ := w_sleepers hw
  obtain ⟨mcP, hlP⟩ := w_parts hw
  obtain ⟨mcH, hlH⟩ := w_hidings hw
  refine jd_ct (ls := [some (.ref (β 0 0)), some (.int (D)), some (.ref (β 1 l)), none, none, none, none, none]) rfl rfl (by decide) (Nat.le_of_ble_eq_true rfl) rfl ?_
  refine jd_iconst (v := 0) dX1_allowed_0 (by decide) ?_
  refine jd_istore_n (ls' := [_, _, _, _, _, _, _, _]) dX1_allowed_1 (Nat.le_of_ble_eq_true rfl) rfl rfl ?_
  refine jd_aload_n dX1_allowed_2 rfl ?_
  refine jd_getN in_X3 (((w_land hw)) l (show l < 6 by omega)) 3 q187 dX1_allowed_3 rfl (Nat.le_of_ble_eq_true rfl) rfl ?_
  refine jd_istore (ls' := [_, _, _, _, _, _, _, _]) dX1_allowed_6 (Nat.le_of_ble_eq_true rfl) rfl rfl ?_
  refine jd_iconst (v := 0) dX1_allowed_8 (by decide) ?_
  refine jd_istore (ls' := [_, _, _, _, _, _, _, _]) dX1_allowed_9 (Nat.le_of_ble_eq_true rfl) rfl rfl ?_
  have lp11_1 : ∀ (j : Nat) (k : Nat) (hk0 : k + j = nP κ), jd_W G mX1_allowed 3 (0) (0) 11 [some (.ref (β 0 0)), some (.int (D)), some (.ref (β 1 l)), some (.int ((ll_al κ D (lQuo κ l) (lNight κ l) k).2)), some (.int ((ll_al κ D (lQuo κ l) (lNight κ l) k).1)), some (.int (nI k)), none, none] [] h (jd_pu h (.int (allowed κ D l))) jd_no := by
    intro j
    induction j with
    | zero =>
      intro k hk0
      obtain rfl : k = nP κ := by omega
      refine jd_iload dX1_allowed_11 rfl ?_
      refine jd_aload_n dX1_allowed_13 rfl ?_
      refine jd_get in_X1 ((w_this hw)) 3 q286 dX1_allowed_14 rfl (Nat.le_of_ble_eq_true rfl) rfl ?_
      refine jd_pF (n := 0) (As := []) (rest := [.int (nI (nP κ))]) (ct_J2_size hlP (show nP κ ≤ 900 by omega)) (jd_rv hlP 15 rfl rfl) (ci := 15) rfl (List.mem_of_getElem? (i := 2) rfl) rfl q339 q342 q344 q83 q346 q341 q345 q343 q207 ⟨by decide, by decide, by decide +kernel⟩ dX1_allowed_17 rfl rfl (Nat.le_of_ble_eq_true rfl) ⟨(Nat.le_of_ble_eq_true rfl), (Nat.le_of_ble_eq_true rfl)⟩ ?_
      refine jd_ncmp_ge (a := nP κ) (b := nP κ) (tgt := 133) dX1_allowed_22 (by decide) (by omega) (by omega) (fun z2 => ?_) (fun z3 => ?_)
      · refine jd_iload_n dX1_allowed_133 rfl ?_
        exact jd_iret dX1_allowed_134 rfl ⟨rfl, rfl⟩
      · omega
    | succ j ih11 =>
      intro k hk0
      refine jd_iload dX1_allowed_11 rfl ?_
      refine jd_aload_n dX1_allowed_13 rfl ?_
      refine jd_get in_X1 ((w_this hw)) 3 q286 dX1_allowed_14 rfl (Nat.le_of_ble_eq_true rfl) rfl ?_
      refine jd_pF (n := 0) (As := []) (rest := [.int (nI k)]) (ct_J2_size hlP (show nP κ ≤ 900 by omega)) (jd_rv hlP 15 rfl rfl) (ci := 15) rfl (List.mem_of_getElem? (i := 2) rfl) rfl q339 q342 q344 q83 q346 q341 q345 q343 q207 ⟨by decide, by decide, by decide +kernel⟩ dX1_allowed_17 rfl rfl (Nat.le_of_ble_eq_true rfl) ⟨(Nat.le_of_ble_eq_true rfl), (Nat.le_of_ble_eq_true rfl)⟩ ?_
      refine jd_ncmp_ge (a := k) (b := nP κ) (tgt := 133) dX1_allowed_22 (by decide) (by omega) (by omega) (fun z4 => ?_) (fun z5 => ?_)
      · omega
      · refine jd_iload_n dX1_allowed_25 rfl ?_
        refine jd_iload dX1_allowed_26 rfl ?_
        refine jd_pS (As := [.int (D), .int (nI k)]) (rest := []) (ct_X1_has (D) (nI k)) rfl q482 q483 q80 q484 nX1_has dX1_allowed_28 rfl rfl (Nat.le_of_ble_eq_true rfl) ⟨(Nat.le_of_ble_eq_true rfl), (Nat.le_of_ble_eq_true rfl)⟩ ?_
        refine jd_mg1 59 (.int (jd_b ((((((D >>> (nI k &&& 31)) &&& 1) = 1)) ∧ ((¬ (((pDread κ k)) < 5))))))) (fun hj6 => ?_) ?_
        · refine jd_bif_eq (tgt := 58) dX1_allowed_31 (by decide) (fun z7 => ?_) (fun z8 => ?_)
          · refine jd_iconst (v := 0) dX1_allowed_58 (by decide) ?_
            exact jd_top (congrArg Value.int (jd_b0 (fun w => z7 w.1)).symm) hj6
          · refine jd_aload_n dX1_allowed_34 rfl ?_
            refine jd_get in_X1 ((w_this hw)) 3 q286 dX1_allowed_35 rfl (Nat.le_of_ble_eq_true rfl) rfl ?_
            refine jd_iload dX1_allowed_38 rfl ?_
            refine jd_pF (n := 1) (As := [.int (nI k)]) (rest := []) (ct_J2_get hlP (show nP κ ≤ 900 by omega) (k := k) (show k < nP κ by omega)) (jd_rv hlP 15 rfl rfl) (ci := 15) rfl (List.mem_of_getElem? (i := 1) rfl) rfl q320 q323 q325 q83 q327 q322 q326 q324 q207 ⟨by decide, by decide, by decide +kernel⟩ dX1_allowed_40 rfl rfl (Nat.le_of_ble_eq_true rfl) ⟨(Nat.le_of_ble_eq_true rfl), (Nat.le_of_ble_eq_true rfl)⟩ ?_
            refine jd_castS (jd_rv (((w_part hw)) k (show k < nP κ by omega)) 5 rfl rfl) (ci := 5) rfl q377 dX1_allowed_45 ?_
            refine jd_pV (As := []) (rest := []) (ct_X11_isNightmare (((w_part hw)) k (show k < nP κ by omega))) (jd_rv (((w_part hw)) k (show k < nP κ by omega)) 5 rfl rfl) rfl q521 q522 q523 q110 q524 nX11_isNightmare dX1_allowed_48 rfl rfl rfl (Nat.le_of_ble_eq_true rfl) ⟨(Nat.le_of_ble_eq_true rfl), (Nat.le_of_ble_eq_true rfl)⟩ ?_
            refine jd_bif_eq (tgt := 58) dX1_allowed_51 (by decide) (fun z9 => ?_) (fun z10 => ?_)
            · refine jd_iconst (v := 0) dX1_allowed_58 (by decide) ?_
              exact jd_top (congrArg Value.int (jd_b0 (fun w => z9 w.2)).symm) hj6
            · refine jd_iconst (v := 1) dX1_allowed_54 (by decide) ?_
              refine jd_goto (tgt := 59) dX1_allowed_55 (by decide) ?_
              exact jd_top (congrArg Value.int (jd_b1 ⟨z8, z10⟩).symm) hj6
        · refine jd_istore (ls' := [_, _, _, _, _, _, _, _]) dX1_allowed_59 (Nat.le_of_ble_eq_true rfl) rfl rfl ?_
          refine jd_iload_n dX1_allowed_61 rfl ?_
          refine jd_iload dX1_allowed_62 rfl ?_
          refine jd_pS (As := [.int (D), .int (nI k)]) (rest := []) (ct_X1_has (D) (nI k)) rfl q482 q483 q80 q484 nX1_has dX1_allowed_64 rfl rfl (Nat.le_of_ble_eq_true rfl) ⟨(Nat.le_of_ble_eq_true rfl), (Nat.le_of_ble_eq_true rfl)⟩ ?_
          refine jd_mg1 89 (.int (jd_b ((((((D >>> (nI k &&& 31)) &&& 1) = 1)) ∧ (¬ ((((((D >>> (nI k &&& 31)) &&& 1) = 1)) ∧ ((¬ (((pDread κ k)) < 5))))) ∨ (¬ ((lQuo κ l) ≤ (ll_al κ D (lQuo κ l) (lNight κ l) k).1))))))) (fun hj11 => ?_) ?_
          · refine jd_bif_eq (tgt := 88) dX1_allowed_67 (by decide) (fun z12 => ?_) (fun z13 => ?_)
            · refine jd_iconst (v := 0) dX1_allowed_88 (by decide) ?_
              exact jd_top (congrArg Value.int (jd_b0 (fun w => z12 w.1)).symm) hj11
            · refine jd_iload dX1_allowed_70 rfl ?_
              refine jd_bif_eq (tgt := 84) dX1_allowed_72 (by decide) (fun z14 => ?_) (fun z15 => ?_)
              · refine jd_iconst (v := 1) dX1_allowed_84 (by decide) ?_
                refine jd_goto (tgt := 89) dX1_allowed_85 (by decide) ?_
                exact jd_top (congrArg Value.int (jd_b1 ⟨z13, (Or.inl z14)⟩).symm) hj11
              · refine jd_iload dX1_allowed_75 rfl ?_
                refine jd_aload_n dX1_allowed_77 rfl ?_
                refine jd_getN in_X3 (((w_land hw)) l (show l < 6 by omega)) 2 q186 dX1_allowed_78 rfl (Nat.le_of_ble_eq_true rfl) rfl ?_
                refine jd_icmp_ge (tgt := 88) dX1_allowed_81 (by decide) (fun z16 => ?_) (fun z17 => ?_)
                · refine jd_iconst (v := 0) dX1_allowed_88 (by decide) ?_
                  exact jd_top (congrArg Value.int (jd_b0 (fun w => (fun w => w.elim (fun w1 => w1 z15) (fun w => w z16)) w.2)).symm) hj11
                · refine jd_iconst (v := 1) dX1_allowed_84 (by decide) ?_
                  refine jd_goto (tgt := 89) dX1_allowed_85 (by decide) ?_
                  exact jd_top (congrArg Value.int (jd_b1 ⟨z13, (Or.inr z17)⟩).symm) hj11
          · refine jd_istore (ls' := [_, _, _, _, _, _, _, _]) dX1_allowed_89 (Nat.le_of_ble_eq_true rfl) rfl rfl ?_
            refine jd_iload dX1_allowed_91 rfl ?_
            refine jd_iload dX1_allowed_93 rfl ?_
            refine jd_mg1 108 (.int (jd_b ((((((((D >>> (nI k &&& 31)) &&& 1) = 1)) ∧ ((¬ (((pDread κ k)) < 5))))) ∧ ((((((D >>> (nI k &&& 31)) &&& 1) = 1)) ∧ (¬ ((((((D >>> (nI k &&& 31)) &&& 1) = 1)) ∧ ((¬ (((pDread κ k)) < 5))))) ∨ (¬ ((lQuo κ l) ≤ (ll_al κ D (lQuo κ l) (lNight κ l) k).1))))))))) (fun hj18 => ?_) ?_
            · refine jd_bif_eq (tgt := 107) dX1_allowed_95 (by decide) (fun z19 => ?_) (fun z20 => ?_)
              · refine jd_iconst (v := 0) dX1_allowed_107 (by decide) ?_
                exact jd_top (congrArg Value.int (jd_b0 (fun w => z19 w.1)).symm) hj18
              · refine jd_iload dX1_allowed_98 rfl ?_
                refine jd_bif_eq (tgt := 107) dX1_allowed_100 (by decide) (fun z21 => ?_) (fun z22 => ?_)
                · refine jd_iconst (v := 0) dX1_allowed_107 (by decide) ?_
                  exact jd_top (congrArg Value.int (jd_b0 (fun w => z21 w.2)).symm) hj18
                · refine jd_iconst (v := 1) dX1_allowed_103 (by decide) ?_
                  refine jd_goto (tgt := 108) dX1_allowed_104 (by decide) ?_
                  exact jd_top (congrArg Value.int (jd_b1 ⟨z20, z22⟩).symm) hj18
            · refine jd_iadd dX1_allowed_108 ?_
              refine jd_istore (ls' := [_, _, _, _, _, _, _, _]) dX1_allowed_109 (Nat.le_of_ble_eq_true rfl) rfl rfl ?_
              refine jd_iload_n dX1_allowed_111 rfl ?_
              refine jd_iload dX1_allowed_112 rfl ?_
              refine jd_mg1 125 (.int ((if (((((D >>> (nI k &&& 31)) &&& 1) = 1)) ∧ (¬ ((((((D >>> (nI k &&& 31)) &&& 1) = 1)) ∧ ((¬ (((pDread κ k)) < 5))))) ∨ (¬ ((lQuo κ l) ≤ (ll_al κ D (lQuo κ l) (lNight κ l) k).1)))) then (1 <<< (nI k &&& 31)) else 0))) (fun hj23 => ?_) ?_
              · refine jd_bif_eq (tgt := 124) dX1_allowed_114 (by decide) (fun z24 => ?_) (fun z25 => ?_)
                · refine jd_iconst (v := 0) dX1_allowed_124 (by decide) ?_
                  exact jd_top (congrArg Value.int (by rw [if_neg z24])) hj23
                · refine jd_iconst (v := 1) dX1_allowed_117 (by decide) ?_
                  refine jd_iload dX1_allowed_118 rfl ?_
                  refine jd_ishl dX1_allowed_120 ?_
                  refine jd_goto (tgt := 125) dX1_allowed_121 (by decide) ?_
                  exact jd_top (congrArg Value.int (by rw [if_pos z25])) hj23
              · refine jd_ior dX1_allowed_125 ?_
                refine jd_istore_n (ls' := [_, _, _, _, _, _, _, _]) dX1_allowed_126 (Nat.le_of_ble_eq_true rfl) rfl rfl ?_
                refine jd_iincN (n := 1) (ls' := [_, _, _, _, _, _, _, _]) dX1_allowed_127 rfl (Nat.le_of_ble_eq_true rfl) rfl rfl ?_
                refine jd_goto (tgt := 11) dX1_allowed_130 (by decide) ?_
                refine jd_lsub [some (.ref (β 0 0)), some (.int (D)), some (.ref (β 1 l)), some (.int ((ll_al κ D (lQuo κ l) (lNight κ l) (k + 1)).2)), some (.int ((ll_al κ D (lQuo κ l) (lNight κ l) (k + 1)).1)), some (.int (nI (k + 1))), none, none] ⟨rfl, rfl, rfl, rfl, rfl, rfl, trivial⟩ ?_
                exact ih11 (k + 1) (by omega)
  refine jd_lsub [some (.ref (β 0 0)), some (.int (D)), some (.ref (β 1 l)), some (.int ((ll_al κ D (lQuo κ l) (lNight κ l) 0).2)), some (.int ((ll_al κ D (lQuo κ l) (lNight κ l) 0).1)), some (.int (nI 0)), none, none] ⟨rfl, rfl, rfl, rfl, rfl, rfl, trivial⟩ ?_
  exact lp11_1 (nP κ) 0 (by omega)

set_option maxRecDepth 20000 in
set_option maxHeartbeats 2000000 in
theorem ct_X1_whole {G : jd_G} {β : ll_B} {κ : ll_K} {h : jd_H} (hw : WC G β κ h) (hI : ll_I κ) (l : Nat) (hl : l < 6) : jd_Ct G mX1_whole 4 (0) (0) [.ref (β 0 0), .int (nI l)] h (jd_pu h (.int (whole κ l))) jd_no := by
  obtain ⟨⟨hG8, hS12, hP24, hH40, hN99, hH24⟩, hIg, hIs, hIp, hIh, hIl, hIq⟩ := id hI
  obtain ⟨mcL, hlL⟩ := w_lands hw
  obtain ⟨mcG, hlG⟩ := w_gates hw
  obtain ⟨mcS, hlS⟩ := w_sleepers hw
  obtain ⟨mcP, hlP⟩ := w_parts hw
  obtain ⟨mcH, hlH⟩ := w_hidings hw
  refine jd_ct (ls := [some (.ref (β 0 0)), some (.int (nI l)), none, none, none, none, none, none]) rfl rfl (by decide) (Nat.le_of_ble_eq_true rfl) rfl ?_
  refine jd_iconst (v := 0) dX1_whole_0 (by decide) ?_
  refine jd_istore_n (ls' := [_, _, _, _, _, _, _, _]) dX1_whole_1 (Nat.le_of_ble_eq_true rfl) rfl rfl ?_
  refine jd_iconst (v := 0) dX1_whole_2 (by decide) ?_
  refine jd_istore_n (ls' := [_, _, _, _, _, _, _, _]) dX1_whole_3 (Nat.le_of_ble_eq_true rfl) rfl rfl ?_
  have lp4_1 : ∀ (j : Nat) (e : Nat) (he0 : e + j = 8), jd_W G mX1_whole 4 (0) (0) 4 [some (.ref (β 0 0)), some (.int (nI l)), some (.int ((ll_set (fun p => 0 < wholeAll κ p ∧ wholeAll κ p = wholeHere κ l p) e))), some (.int (nI e)), none, none, none, none] [] h (jd_pu h (.int (whole κ l))) jd_no := by
    intro j
    induction j with
    | zero =>
      intro e he0
      obtain rfl : e = 8 := by omega
      refine jd_iload_n dX1_whole_4 rfl ?_
      refine jd_bipush (v := 8) dX1_whole_5 (by decide) ?_
      refine jd_ncmp_ge (a := 8) (b := 8) (tgt := 147) dX1_whole_7 (by decide) (by omega) (by omega) (fun z2 => ?_) (fun z3 => ?_)
      · refine jd_iload_n dX1_whole_147 rfl ?_
        exact jd_iret dX1_whole_148 rfl ⟨rfl, rfl⟩
      · omega
    | succ j ih4 =>
      intro e he0
      refine jd_iload_n dX1_whole_4 rfl ?_
      refine jd_bipush (v := 8) dX1_whole_5 (by decide) ?_
      refine jd_ncmp_ge (a := e) (b := 8) (tgt := 147) dX1_whole_7 (by decide) (by omega) (by omega) (fun z4 => ?_) (fun z5 => ?_)
      · omega
      · refine jd_iconst (v := 0) dX1_whole_10 (by decide) ?_
        refine jd_istore (ls' := [_, _, _, _, _, _, _, _]) dX1_whole_11 (Nat.le_of_ble_eq_true rfl) rfl rfl ?_
        refine jd_iconst (v := 0) dX1_whole_13 (by decide) ?_
        refine jd_istore (ls' := [_, _, _, _, _, _, _, _]) dX1_whole_14 (Nat.le_of_ble_eq_true rfl) rfl rfl ?_
        refine jd_iconst (v := 0) dX1_whole_16 (by decide) ?_
        refine jd_istore (ls' := [_, _, _, _, _, _, _, _]) dX1_whole_17 (Nat.le_of_ble_eq_true rfl) rfl rfl ?_
        have lp19_6 : ∀ (j : Nat) (k : Nat) (hk0 : k + j = nP κ), jd_W G mX1_whole 4 (0) (0) 19 [some (.ref (β 0 0)), some (.int (nI l)), some (.int ((ll_set (fun p => 0 < wholeAll κ p ∧ wholeAll κ p = wholeHere κ l p) e))), some (.int (nI e)), some (.int ((ll_cnt (fun p => pDream κ p = e) k))), some (.int ((ll_cnt (fun p => (pDream κ p = e) ∧ (ll_land κ p = some l)) k))), some (.int (nI k)), none] [] h (jd_pu h (.int (whole κ l))) jd_no := by
          intro j
          induction j with
          | zero =>
            intro k hk0
            obtain rfl : k = nP κ := by omega
            refine jd_iload dX1_whole_19 rfl ?_
            refine jd_aload_n dX1_whole_21 rfl ?_
            refine jd_get in_X1 ((w_this hw)) 3 q286 dX1_whole_22 rfl (Nat.le_of_ble_eq_true rfl) rfl ?_
            refine jd_pF (n := 0) (As := []) (rest := [.int (nI (nP κ))]) (ct_J2_size hlP (show nP κ ≤ 900 by omega)) (jd_rv hlP 15 rfl rfl) (ci := 15) rfl (List.mem_of_getElem? (i := 2) rfl) rfl q339 q342 q344 q83 q346 q341 q345 q343 q207 ⟨by decide, by decide, by decide +kernel⟩ dX1_whole_25 rfl rfl (Nat.le_of_ble_eq_true rfl) ⟨(Nat.le_of_ble_eq_true rfl), (Nat.le_of_ble_eq_true rfl)⟩ ?_
            refine jd_ncmp_ge (a := nP κ) (b := nP κ) (tgt := 119) dX1_whole_30 (by decide) (by omega) (by omega) (fun z7 => ?_) (fun z8 => ?_)
            · refine jd_iload_n dX1_whole_119 rfl ?_
              refine jd_iload dX1_whole_120 rfl ?_
              refine jd_mg1 139 (.int ((if (ll_cnt (fun p => pDream κ p = e) (nP κ)) ≤ 0 then 0 else if (ll_cnt (fun p => pDream κ p = e) (nP κ)) = (ll_cnt (fun p => (pDream κ p = e) ∧ (ll_land κ p = some l)) (nP κ)) then (1 <<< (nI e &&& 31)) else 0))) (fun hj9 => ?_) ?_
              · refine jd_if_le (tgt := 138) dX1_whole_122 (by decide) (fun z10 => ?_) (fun z11 => ?_)
                · refine jd_iconst (v := 0) dX1_whole_138 (by decide) ?_
                  exact jd_top (congrArg Value.int (by rw [if_pos z10])) hj9
                · refine jd_iload dX1_whole_125 rfl ?_
                  refine jd_iload dX1_whole_127 rfl ?_
                  refine jd_icmp_ne (tgt := 138) dX1_whole_129 (by decide) (fun z12 => ?_) (fun z13 => ?_)
                  · refine jd_iconst (v := 0) dX1_whole_138 (by decide) ?_
                    exact jd_top (congrArg Value.int (by rw [if_neg z11, if_neg z12])) hj9
                  · refine jd_iconst (v := 1) dX1_whole_132 (by decide) ?_
                    refine jd_iload_n dX1_whole_133 rfl ?_
                    refine jd_ishl dX1_whole_134 ?_
                    refine jd_goto (tgt := 139) dX1_whole_135 (by decide) ?_
                    exact jd_top (congrArg Value.int (by rw [if_neg z11, if_pos z13])) hj9
              · refine jd_ior dX1_whole_139 ?_
                refine jd_istore_n (ls' := [_, _, _, _, _, _, _, _]) dX1_whole_140 (Nat.le_of_ble_eq_true rfl) rfl rfl ?_
                refine jd_iincN (n := 1) (ls' := [_, _, _, _, _, _, _, _]) dX1_whole_141 rfl (Nat.le_of_ble_eq_true rfl) rfl rfl ?_
                refine jd_goto (tgt := 4) dX1_whole_144 (by decide) ?_
                refine jd_lsub [some (.ref (β 0 0)), some (.int (nI l)), some (.int ((ll_set (fun p => 0 < wholeAll κ p ∧ wholeAll κ p = wholeHere κ l p) (e + 1)))), some (.int (nI (e + 1))), none, none, none, none] ⟨rfl, rfl, (congrArg (fun x => some (Value.int (_ ||| x))) whole_if), rfl, trivial⟩ ?_
                exact ih4 (e + 1) (by omega)
            · omega
          | succ j ih19 =>
            intro k hk0
            have hp1 := fun (w : k < nP κ) => hIp k w
            refine jd_iload dX1_whole_19 rfl ?_
            refine jd_aload_n dX1_whole_21 rfl ?_
            refine jd_get in_X1 ((w_this hw)) 3 q286 dX1_whole_22 rfl (Nat.le_of_ble_eq_true rfl) rfl ?_
            refine jd_pF (n := 0) (As := []) (rest := [.int (nI k)]) (ct_J2_size hlP (show nP κ ≤ 900 by omega)) (jd_rv hlP 15 rfl rfl) (ci := 15) rfl (List.mem_of_getElem? (i := 2) rfl) rfl q339 q342 q344 q83 q346 q341 q345 q343 q207 ⟨by decide, by decide, by decide +kernel⟩ dX1_whole_25 rfl rfl (Nat.le_of_ble_eq_true rfl) ⟨(Nat.le_of_ble_eq_true rfl), (Nat.le_of_ble_eq_true rfl)⟩ ?_
            refine jd_ncmp_ge (a := k) (b := nP κ) (tgt := 119) dX1_whole_30 (by decide) (by omega) (by omega) (fun z14 => ?_) (fun z15 => ?_)
            · omega
            · refine jd_aload_n dX1_whole_33 rfl ?_
              refine jd_get in_X1 ((w_this hw)) 3 q286 dX1_whole_34 rfl (Nat.le_of_ble_eq_true rfl) rfl ?_
              refine jd_iload dX1_whole_37 rfl ?_
              refine jd_pF (n := 1) (As := [.int (nI k)]) (rest := []) (ct_J2_get hlP (show nP κ ≤ 900 by omega) (k := k) (show k < nP κ by omega)) (jd_rv hlP 15 rfl rfl) (ci := 15) rfl (List.mem_of_getElem? (i := 1) rfl) rfl q320 q323 q325 q83 q327 q322 q326 q324 q207 ⟨by decide, by decide, by decide +kernel⟩ dX1_whole_39 rfl rfl (Nat.le_of_ble_eq_true rfl) ⟨(Nat.le_of_ble_eq_true rfl), (Nat.le_of_ble_eq_true rfl)⟩ ?_
              refine jd_castS (jd_rv (((w_part hw)) k (show k < nP κ by omega)) 5 rfl rfl) (ci := 5) rfl q377 dX1_whole_44 ?_
              refine jd_getN in_X11 (((w_part hw)) k (show k < nP κ by omega)) 0 q902 dX1_whole_47 rfl (Nat.le_of_ble_eq_true rfl) rfl ?_
              refine jd_iload_n dX1_whole_50 rfl ?_
              refine jd_mg2 59 (.int (jd_b (((pDream κ k) = e)))) (fun hj16 => ?_) ?_
              · refine jd_ncmp_ne (a := (pDream κ k)) (b := e) (tgt := 58) dX1_whole_51 (by decide) (by omega) (by omega) (fun z17 => ?_) (fun z18 => ?_)
                · refine jd_iconst (v := 0) dX1_whole_58 (by decide) ?_
                  exact jd_top (congrArg Value.int (jd_b0 z17).symm) hj16
                · refine jd_iconst (v := 1) dX1_whole_54 (by decide) ?_
                  refine jd_goto (tgt := 59) dX1_whole_55 (by decide) ?_
                  exact jd_top (congrArg Value.int (jd_b1 z18).symm) hj16
              · refine jd_istore (ls' := [_, _, _, _, _, _, _, _]) dX1_whole_59 (Nat.le_of_ble_eq_true rfl) rfl rfl ?_
                refine jd_iload dX1_whole_61 rfl ?_
                refine jd_iload dX1_whole_63 rfl ?_
                refine jd_mg1 73 (.int (jd_b ((((pDream κ k) = e))))) (fun hj19 => ?_) ?_
                · refine jd_bif_eq (tgt := 72) dX1_whole_65 (by decide) (fun z20 => ?_) (fun z21 => ?_)
                  · refine jd_iconst (v := 0) dX1_whole_72 (by decide) ?_
                    exact jd_top (congrArg Value.int (jd_b0 z20).symm) hj19
                  · refine jd_iconst (v := 1) dX1_whole_68 (by decide) ?_
                    refine jd_goto (tgt := 73) dX1_whole_69 (by decide) ?_
                    exact jd_top (congrArg Value.int (jd_b1 z21).symm) hj19
                · refine jd_iadd dX1_whole_73 ?_
                  refine jd_istore (ls' := [_, _, _, _, _, _, _, _]) dX1_whole_74 (Nat.le_of_ble_eq_true rfl) rfl rfl ?_
                  refine jd_iload dX1_whole_76 rfl ?_
                  refine jd_iload dX1_whole_78 rfl ?_
                  refine jd_mg1 110 (.int (jd_b (((((pDream κ k) = e)) ∧ (ll_land κ k = some l))))) (fun hj22 => ?_) ?_
                  · refine jd_bif_eq (tgt := 109) dX1_whole_80 (by decide) (fun z23 => ?_) (fun z24 => ?_)
                    · refine jd_iconst (v := 0) dX1_whole_109 (by decide) ?_
                      exact jd_top (congrArg Value.int (jd_b0 (fun w => z23 w.1)).symm) hj22
                    · refine jd_aload_n dX1_whole_83 rfl ?_
                      refine jd_aload_n dX1_whole_84 rfl ?_
                      refine jd_get in_X1 ((w_this hw)) 3 q286 dX1_whole_85 rfl (Nat.le_of_ble_eq_true rfl) rfl ?_
                      refine jd_iload dX1_whole_88 rfl ?_
                      refine jd_pF (n := 1) (As := [.int (nI k)]) (rest := [.ref (β 0 0), .int ((ll_cnt (fun p => (pDream κ p = e) ∧ (ll_land κ p = some l)) k))]) (ct_J2_get hlP (show nP κ ≤ 900 by omega) (k := k) (show k < nP κ by omega)) (jd_rv hlP 15 rfl rfl) (ci := 15) rfl (List.mem_of_getElem? (i := 1) rfl) rfl q320 q323 q325 q83 q327 q322 q326 q324 q207 ⟨by decide, by decide, by decide +kernel⟩ dX1_whole_90 rfl rfl (Nat.le_of_ble_eq_true rfl) ⟨(Nat.le_of_ble_eq_true rfl), (Nat.le_of_ble_eq_true rfl)⟩ ?_
                      refine jd_castS (jd_rv (((w_part hw)) k (show k < nP κ by omega)) 5 rfl rfl) (ci := 5) rfl q377 dX1_whole_95 ?_
                      refine jd_pV (As := [.ref (β 8 k)]) (rest := [.int ((ll_cnt (fun p => (pDream κ p = e) ∧ (ll_land κ p = some l)) k))]) (ct_X1_landOf hw hI (k) (by omega)) (jd_rv ((w_this hw)) 0 rfl rfl) rfl q445 q447 qs15 q80 q448 nX1_landOf dX1_whole_98 rfl rfl rfl (Nat.le_of_ble_eq_true rfl) ⟨(Nat.le_of_ble_eq_true rfl), (Nat.le_of_ble_eq_true rfl)⟩ ?_
                      refine jd_iload_n dX1_whole_101 rfl ?_
                      refine jd_ocmp_ne (tgt := 109) dX1_whole_102 (by decide) (fun j hj => by have := ll_land_lt hI (p := k) (by omega) hj; omega) (by omega) (fun z25 => ?_) (fun z26 => ?_)
                      · refine jd_iconst (v := 0) dX1_whole_109 (by decide) ?_
                        exact jd_top (congrArg Value.int (jd_b0 (fun w => z25 w.2)).symm) hj22
                      · refine jd_iconst (v := 1) dX1_whole_105 (by decide) ?_
                        refine jd_goto (tgt := 110) dX1_whole_106 (by decide) ?_
                        exact jd_top (congrArg Value.int (jd_b1 ⟨z24, z26⟩).symm) hj22
                  · refine jd_iadd dX1_whole_110 ?_
                    refine jd_istore (ls' := [_, _, _, _, _, _, _, _]) dX1_whole_111 (Nat.le_of_ble_eq_true rfl) rfl rfl ?_
                    refine jd_iincN (n := 1) (ls' := [_, _, _, _, _, _, _, _]) dX1_whole_113 rfl (Nat.le_of_ble_eq_true rfl) rfl rfl ?_
                    refine jd_goto (tgt := 19) dX1_whole_116 (by decide) ?_
                    refine jd_lsub [some (.ref (β 0 0)), some (.int (nI l)), some (.int ((ll_set (fun p => 0 < wholeAll κ p ∧ wholeAll κ p = wholeHere κ l p) e))), some (.int (nI e)), some (.int ((ll_cnt (fun p => pDream κ p = e) (k + 1)))), some (.int ((ll_cnt (fun p => (pDream κ p = e) ∧ (ll_land κ p = some l)) (k + 1)))), some (.int (nI (k + 1))), none] ⟨rfl, rfl, rfl, rfl, rfl, rfl, rfl, trivial⟩ ?_
                    exact ih19 (k + 1) (by omega)
        refine jd_lsub [some (.ref (β 0 0)), some (.int (nI l)), some (.int ((ll_set (fun p => 0 < wholeAll κ p ∧ wholeAll κ p = wholeHere κ l p) e))), some (.int (nI e)), some (.int ((ll_cnt (fun p => pDream κ p = e) 0))), some (.int ((ll_cnt (fun p => (pDream κ p = e) ∧ (ll_land κ p = some l)) 0))), some (.int (nI 0)), none] ⟨rfl, rfl, rfl, rfl, rfl, rfl, rfl, trivial⟩ ?_
        exact lp19_6 (nP κ) 0 (by omega)
  refine jd_lsub [some (.ref (β 0 0)), some (.int (nI l)), some (.int ((ll_set (fun p => 0 < wholeAll κ p ∧ wholeAll κ p = wholeHere κ l p) 0))), some (.int (nI 0)), none, none, none, none] ⟨rfl, rfl, rfl, rfl, trivial⟩ ?_
  exact lp4_1 (8) 0 (by omega)

set_option maxRecDepth 20000 in
set_option maxHeartbeats 2000000 in
theorem ct_X1_hiddenWorth {G : jd_G} {β : ll_B} {κ : ll_K} {h : jd_H} (hw : WC G β κ h) (hI : ll_I κ) (g : Nat) (hg : g < nG κ) : jd_Ct G mX1_hiddenWorth 4 (0) (0) [.ref (β 0 0), .ref (β 2 g)] h (jd_pu h (.int (hiddenWorth κ g))) jd_no := by
  obtain ⟨⟨hG8, hS12, hP24, hH40, hN99, hH24⟩, hIg, hIs, hIp, hIh, hIl, hIq⟩ := id hI
  obtain ⟨mcL, hlL⟩ := w_lands hw
  obtain ⟨mcG, hlG⟩ := w_gates hw
  obtain ⟨mcS, hlS⟩ := w_sleepers hw
  obtain ⟨mcP, hlP⟩ := w_parts hw
  obtain ⟨mcH, hlH⟩ := w_hidings hw
  have hql := (hIg g hg).2.2.1
  refine jd_ct (ls := [some (.ref (β 0 0)), some (.ref (β 2 g)), none, none, none]) rfl rfl (by decide) (Nat.le_of_ble_eq_true rfl) rfl ?_
  refine jd_iconst (v := 0) dX1_hiddenWorth_0 (by decide) ?_
  refine jd_istore_n (ls' := [_, _, _, _, _]) dX1_hiddenWorth_1 (Nat.le_of_ble_eq_true rfl) rfl rfl ?_
  refine jd_iconst (v := 0) dX1_hiddenWorth_2 (by decide) ?_
  refine jd_istore_n (ls' := [_, _, _, _, _]) dX1_hiddenWorth_3 (Nat.le_of_ble_eq_true rfl) rfl rfl ?_
  have lp4_1 : ∀ (j : Nat) (k : Nat) (hk0 : k + j = (gQue κ g).length), jd_W G mX1_hiddenWorth 4 (0) (0) 4 [some (.ref (β 0 0)), some (.ref (β 2 g)), some (.int ((ll_sum (fun p => worthOf κ (headOf κ (qAt κ g p) &&& (sDecl κ (qAt κ g p) ^^^ (-1)))) k))), some (.int (nI k)), none] [] h (jd_pu h (.int (hiddenWorth κ g))) jd_no := by
    intro j
    induction j with
    | zero =>
      intro k hk0
      obtain rfl : k = (gQue κ g).length := by omega
      refine jd_iload_n dX1_hiddenWorth_4 rfl ?_
      refine jd_aload_n dX1_hiddenWorth_5 rfl ?_
      refine jd_getN in_X7 (((w_gate hw)) g (show g < nG κ by omega)) 7 q792 dX1_hiddenWorth_6 rfl (Nat.le_of_ble_eq_true rfl) rfl ?_
      obtain ⟨mcq2, hqu2⟩ := w_queue hw g (show g < nG κ by omega)
      have hql2 := (hIg g (show g < nG κ by omega)).2.2.1
      refine jd_pF (n := 0) (As := []) (rest := [.int (nI ((gQue κ g).length))]) (ct_J2_size hqu2 (by omega)) (jd_rv hqu2 15 rfl rfl) (ci := 15) rfl (List.mem_of_getElem? (i := 2) rfl) rfl q339 q342 q344 q83 q346 q341 q345 q343 q207 ⟨by decide, by decide, by decide +kernel⟩ dX1_hiddenWorth_9 rfl rfl (Nat.le_of_ble_eq_true rfl) ⟨(Nat.le_of_ble_eq_true rfl), (Nat.le_of_ble_eq_true rfl)⟩ ?_
      refine jd_ncmp_ge (a := (gQue κ g).length) (b := (gQue κ g).length) (tgt := 62) dX1_hiddenWorth_14 (by decide) (by omega) (by omega) (fun z3 => ?_) (fun z4 => ?_)
      · refine jd_iload_n dX1_hiddenWorth_62 rfl ?_
        exact jd_iret dX1_hiddenWorth_63 rfl ⟨rfl, rfl⟩
      · omega
    | succ j ih4 =>
      intro k hk0
      have hq1 := fun (w : k < (gQue κ g).length) => q_lt hI hg w
      have hq2 := hq1 (by omega)
      refine jd_iload_n dX1_hiddenWorth_4 rfl ?_
      refine jd_aload_n dX1_hiddenWorth_5 rfl ?_
      refine jd_getN in_X7 (((w_gate hw)) g (show g < nG κ by omega)) 7 q792 dX1_hiddenWorth_6 rfl (Nat.le_of_ble_eq_true rfl) rfl ?_
      obtain ⟨mcq5, hqu5⟩ := w_queue hw g (show g < nG κ by omega)
      have hql5 := (hIg g (show g < nG κ by omega)).2.2.1
      refine jd_pF (n := 0) (As := []) (rest := [.int (nI k)]) (ct_J2_size hqu5 (by omega)) (jd_rv hqu5 15 rfl rfl) (ci := 15) rfl (List.mem_of_getElem? (i := 2) rfl) rfl q339 q342 q344 q83 q346 q341 q345 q343 q207 ⟨by decide, by decide, by decide +kernel⟩ dX1_hiddenWorth_9 rfl rfl (Nat.le_of_ble_eq_true rfl) ⟨(Nat.le_of_ble_eq_true rfl), (Nat.le_of_ble_eq_true rfl)⟩ ?_
      refine jd_ncmp_ge (a := k) (b := (gQue κ g).length) (tgt := 62) dX1_hiddenWorth_14 (by decide) (by omega) (by omega) (fun z6 => ?_) (fun z7 => ?_)
      · omega
      · refine jd_aload_n dX1_hiddenWorth_17 rfl ?_
        refine jd_getN in_X7 (((w_gate hw)) g (show g < nG κ by omega)) 7 q792 dX1_hiddenWorth_18 rfl (Nat.le_of_ble_eq_true rfl) rfl ?_
        refine jd_iload_n dX1_hiddenWorth_21 rfl ?_
        refine jd_pF (n := 1) (As := [.int (nI k)]) (rest := []) (ct_J2_get hqu5 (by omega) (k := k) (show k < (gQue κ g).length by omega)) (jd_rv hqu5 15 rfl rfl) (ci := 15) rfl (List.mem_of_getElem? (i := 1) rfl) rfl q320 q323 q325 q83 q327 q322 q326 q324 q207 ⟨by decide, by decide, by decide +kernel⟩ dX1_hiddenWorth_22 rfl rfl (Nat.le_of_ble_eq_true rfl) ⟨(Nat.le_of_ble_eq_true rfl), (Nat.le_of_ble_eq_true rfl)⟩ ?_
        refine jd_castS (jd_rv (((w_sleeper hw)) (qAt κ g k) (show qAt κ g k < nS κ by omega)) 4 rfl rfl) (ci := 4) rfl q352 dX1_hiddenWorth_27 ?_
        refine jd_astore (ls' := [_, _, _, _, _]) dX1_hiddenWorth_30 (Nat.le_of_ble_eq_true rfl) rfl rfl ?_
        refine jd_iload_n dX1_hiddenWorth_32 rfl ?_
        refine jd_aload_n dX1_hiddenWorth_33 rfl ?_
        refine jd_aload_n dX1_hiddenWorth_34 rfl ?_
        refine jd_aload dX1_hiddenWorth_35 rfl ?_
        refine jd_getN in_X9 (((w_sleeper hw)) (qAt κ g k) (show qAt κ g k < nS κ by omega)) 0 q849 dX1_hiddenWorth_37 rfl (Nat.le_of_ble_eq_true rfl) rfl ?_
        refine jd_pV (As := [.int (nI (qAt κ g k))]) (rest := [.ref (β 0 0), .int ((ll_sum (fun p => worthOf κ (headOf κ (qAt κ g p) &&& (sDecl κ (qAt κ g p) ^^^ (-1)))) k))]) (ct_X1_headOf hw hI (qAt κ g k) (by omega)) (jd_rv ((w_this hw)) 0 rfl rfl) rfl q373 q375 qs5 q80 q376 nX1_headOf dX1_hiddenWorth_40 rfl rfl rfl (Nat.le_of_ble_eq_true rfl) ⟨(Nat.le_of_ble_eq_true rfl), (Nat.le_of_ble_eq_true rfl)⟩ ?_
        refine jd_aload dX1_hiddenWorth_43 rfl ?_
        refine jd_getN in_X9 (((w_sleeper hw)) (qAt κ g k) (show qAt κ g k < nS κ by omega)) 6 q862 dX1_hiddenWorth_45 rfl (Nat.le_of_ble_eq_true rfl) rfl ?_
        refine jd_iconst (v := (-1)) dX1_hiddenWorth_48 (by decide) ?_
        refine jd_ixor dX1_hiddenWorth_49 ?_
        refine jd_iand dX1_hiddenWorth_50 ?_
        refine jd_pV (As := [.int (((headOf κ (qAt κ g k)) &&& ((sDecl κ (qAt κ g k)) ^^^ (-1))))]) (rest := [.int ((ll_sum (fun p => worthOf κ (headOf κ (qAt κ g p) &&& (sDecl κ (qAt κ g p) ^^^ (-1)))) k))]) (ct_X1_worthOf hw hI (((headOf κ (qAt κ g k)) &&& ((sDecl κ (qAt κ g k)) ^^^ (-1))))) (jd_rv ((w_this hw)) 0 rfl rfl) rfl q478 q480 qs19 q80 q481 nX1_worthOf dX1_hiddenWorth_51 rfl rfl rfl (Nat.le_of_ble_eq_true rfl) ⟨(Nat.le_of_ble_eq_true rfl), (Nat.le_of_ble_eq_true rfl)⟩ ?_
        refine jd_iadd dX1_hiddenWorth_54 ?_
        refine jd_istore_n (ls' := [_, _, _, _, _]) dX1_hiddenWorth_55 (Nat.le_of_ble_eq_true rfl) rfl rfl ?_
        refine jd_iincN (n := 1) (ls' := [_, _, _, _, _]) dX1_hiddenWorth_56 rfl (Nat.le_of_ble_eq_true rfl) rfl rfl ?_
        refine jd_goto (tgt := 4) dX1_hiddenWorth_59 (by decide) ?_
        refine jd_lsub [some (.ref (β 0 0)), some (.ref (β 2 g)), some (.int ((ll_sum (fun p => worthOf κ (headOf κ (qAt κ g p) &&& (sDecl κ (qAt κ g p) ^^^ (-1)))) (k + 1)))), some (.int (nI (k + 1))), none] ⟨rfl, rfl, rfl, rfl, trivial⟩ ?_
        exact ih4 (k + 1) (by omega)
  refine jd_lsub [some (.ref (β 0 0)), some (.ref (β 2 g)), some (.int ((ll_sum (fun p => worthOf κ (headOf κ (qAt κ g p) &&& (sDecl κ (qAt κ g p) ^^^ (-1)))) 0))), some (.int (nI 0)), none] ⟨rfl, rfl, rfl, rfl, trivial⟩ ?_
  exact lp4_1 ((gQue κ g).length) 0 (by omega)

set_option maxRecDepth 20000 in
set_option maxHeartbeats 2000000 in
theorem ct_X7_many {G : jd_G} {β : ll_B} {κ : ll_K} {h : jd_H} (hw : WC G β κ h) (hI : ll_I κ) (g : Nat) (hg : g < nG κ) : jd_Ct G mX7_many 0 (0) (0) [.ref (β 2 g)] h (jd_pu h (.int (manyV κ g))) jd_no := by
  obtain ⟨⟨hG8, hS12, hP24, hH40, hN99, hH24⟩, hIg, hIs, hIp, hIh, hIl, hIq⟩ := id hI
  obtain ⟨mcL, hlL⟩ := w_lands hw
  obtain ⟨mcG, hlG⟩ := w_gates hw
  obtain ⟨mcS, hlS⟩ := w_sleepers hw
  obtain ⟨mcP, hlP⟩ := w_parts hw
  obtain ⟨mcH, hlH⟩ := w_hidings hw
  refine jd_ct (ls := [some (.ref (β 2 g)), none, none, none, none, none]) rfl rfl (by decide) (Nat.le_of_ble_eq_true rfl) rfl ?_
  refine jd_iconst (v := 0) dX7_many_0 (by decide) ?_
  refine jd_istore_n (ls' := [_, _, _, _, _, _]) dX7_many_1 (Nat.le_of_ble_eq_true rfl) rfl rfl ?_
  refine jd_aload_n dX7_many_2 rfl ?_
  refine jd_get in_X7 (((w_gate hw)) g (show g < nG κ by omega)) 6 q789 dX7_many_3 rfl (Nat.le_of_ble_eq_true rfl) rfl ?_
  refine jd_astore_n (ls' := [_, _, _, _, _, _]) dX7_many_6 (Nat.le_of_ble_eq_true rfl) rfl rfl ?_
  refine jd_aload_n dX7_many_7 rfl ?_
  refine jd_alen (((w_rev hw)) g (show g < nG κ by omega)) dX7_many_8 1 rfl ?_
  refine jd_istore_n (ls' := [_, _, _, _, _, _]) dX7_many_9 (Nat.le_of_ble_eq_true rfl) rfl rfl ?_
  refine jd_iconst (v := 0) dX7_many_10 (by decide) ?_
  refine jd_istore (ls' := [_, _, _, _, _, _]) dX7_many_11 (Nat.le_of_ble_eq_true rfl) rfl rfl ?_
  have lp13_1 : ∀ (j : Nat) (k : Nat) (hk0 : k + j = 97), jd_W G mX7_many 0 (0) (0) 13 [some (.ref (β 2 g)), some (.int ((ll_cnt (fun p => gRev κ g p = true) k))), some (.ref (β 4 g)), some (.int (nI 97)), some (.int (nI k)), none] [] h (jd_pu h (.int (manyV κ g))) jd_no := by
    intro j
    induction j with
    | zero =>
      intro k hk0
      obtain rfl : k = 97 := by omega
      refine jd_iload dX7_many_13 rfl ?_
      refine jd_iload_n dX7_many_15 rfl ?_
      refine jd_ncmp_ge (a := 97) (b := 97) (tgt := 44) dX7_many_16 (by decide) (by omega) (by omega) (fun z2 => ?_) (fun z3 => ?_)
      · refine jd_iload_n dX7_many_44 rfl ?_
        exact jd_iret dX7_many_45 rfl ⟨rfl, rfl⟩
      · omega
    | succ j ih13 =>
      intro k hk0
      refine jd_iload dX7_many_13 rfl ?_
      refine jd_iload_n dX7_many_15 rfl ?_
      refine jd_ncmp_ge (a := k) (b := 97) (tgt := 44) dX7_many_16 (by decide) (by omega) (by omega) (fun z4 => ?_) (fun z5 => ?_)
      · omega
      · refine jd_aload_n dX7_many_19 rfl ?_
        refine jd_iload dX7_many_20 rfl ?_
        refine jd_zald (((w_rev hw)) g (show g < nG κ by omega)) dX7_many_22 (vp_in_nI (by omega) (by omega)) ?_
        refine jd_top (w := .int (jd_b (gRev κ g k = true))) (by rw [nI_clamp (by omega)]) ?_
        refine jd_istore (ls' := [_, _, _, _, _, _]) dX7_many_23 (Nat.le_of_ble_eq_true rfl) rfl rfl ?_
        refine jd_iload_n dX7_many_25 rfl ?_
        refine jd_iload dX7_many_26 rfl ?_
        refine jd_mg1 36 (.int (jd_b ((gRev κ g k = true)))) (fun hj6 => ?_) ?_
        · refine jd_bif_eq (tgt := 35) dX7_many_28 (by decide) (fun z7 => ?_) (fun z8 => ?_)
          · refine jd_iconst (v := 0) dX7_many_35 (by decide) ?_
            exact jd_top (congrArg Value.int (jd_b0 z7).symm) hj6
          · refine jd_iconst (v := 1) dX7_many_31 (by decide) ?_
            refine jd_goto (tgt := 36) dX7_many_32 (by decide) ?_
            exact jd_top (congrArg Value.int (jd_b1 z8).symm) hj6
        · refine jd_iadd dX7_many_36 ?_
          refine jd_istore_n (ls' := [_, _, _, _, _, _]) dX7_many_37 (Nat.le_of_ble_eq_true rfl) rfl rfl ?_
          refine jd_iincN (n := 1) (ls' := [_, _, _, _, _, _]) dX7_many_38 rfl (Nat.le_of_ble_eq_true rfl) rfl rfl ?_
          refine jd_goto (tgt := 13) dX7_many_41 (by decide) ?_
          refine jd_lsub [some (.ref (β 2 g)), some (.int ((ll_cnt (fun p => gRev κ g p = true) (k + 1)))), some (.ref (β 4 g)), some (.int (nI 97)), some (.int (nI (k + 1))), none] ⟨rfl, rfl, rfl, rfl, rfl, trivial⟩ ?_
          exact ih13 (k + 1) (by omega)
  refine jd_lsub [some (.ref (β 2 g)), some (.int ((ll_cnt (fun p => gRev κ g p = true) 0))), some (.ref (β 4 g)), some (.int (nI 97)), some (.int (nI 0)), none] ⟨rfl, rfl, rfl, rfl, rfl, trivial⟩ ?_
  exact lp13_1 (97) 0 (by omega)

set_option maxRecDepth 20000 in
set_option maxHeartbeats 2000000 in
theorem ct_X7_place {G : jd_G} {β : ll_B} {κ : ll_K} {h : jd_H} (hw : WC G β κ h) (hI : ll_I κ) (g s : Nat) (hg : g < nG κ) (hs : s < nS κ) : jd_Ct G mX7_place 3 (0) (0) [.ref (β 2 g), .ref (β 5 s)] h (jd_pu h (.int (oI (placeOf κ g s)))) jd_no := by
  obtain ⟨⟨hG8, hS12, hP24, hH40, hN99, hH24⟩, hIg, hIs, hIp, hIh, hIl, hIq⟩ := id hI
  obtain ⟨mcL, hlL⟩ := w_lands hw
  obtain ⟨mcG, hlG⟩ := w_gates hw
  obtain ⟨mcS, hlS⟩ := w_sleepers hw
  obtain ⟨mcP, hlP⟩ := w_parts hw
  obtain ⟨mcH, hlH⟩ := w_hidings hw
  have hql := (hIg g hg).2.2.1
  refine jd_ct (ls := [some (.ref (β 2 g)), some (.ref (β 5 s)), none]) rfl rfl (by decide) (Nat.le_of_ble_eq_true rfl) rfl ?_
  refine jd_iconst (v := 0) dX7_place_0 (by decide) ?_
  refine jd_istore_n (ls' := [_, _, _]) dX7_place_1 (Nat.le_of_ble_eq_true rfl) rfl rfl ?_
  have lp2_1 : ∀ (j : Nat) (k : Nat) (hk0 : k + j = (gQue κ g).length) (hno : ∀ i, i < k → ¬ qAt κ g i = s), jd_W G mX7_place 3 (0) (0) 2 [some (.ref (β 2 g)), some (.ref (β 5 s)), some (.int (nI k))] [] h (jd_pu h (.int (oI (placeOf κ g s)))) jd_no := by
    intro j
    induction j with
    | zero =>
      intro k hk0 hno
      obtain rfl : k = (gQue κ g).length := by omega
      refine jd_iload_n dX7_place_2 rfl ?_
      refine jd_aload_n dX7_place_3 rfl ?_
      refine jd_get in_X7 (((w_gate hw)) g (show g < nG κ by omega)) 7 q791 dX7_place_4 rfl (Nat.le_of_ble_eq_true rfl) rfl ?_
      obtain ⟨mcq2, hqu2⟩ := w_queue hw g (show g < nG κ by omega)
      have hql2 := (hIg g (show g < nG κ by omega)).2.2.1
      refine jd_pF (n := 0) (As := []) (rest := [.int (nI ((gQue κ g).length))]) (ct_J2_size hqu2 (by omega)) (jd_rv hqu2 15 rfl rfl) (ci := 15) rfl (List.mem_of_getElem? (i := 2) rfl) rfl q368 q342 q344 q83 q346 q341 q345 q343 q207 ⟨by decide, by decide, by decide +kernel⟩ dX7_place_7 rfl rfl (Nat.le_of_ble_eq_true rfl) ⟨(Nat.le_of_ble_eq_true rfl), (Nat.le_of_ble_eq_true rfl)⟩ ?_
      refine jd_ncmp_ge (a := (gQue κ g).length) (b := (gQue κ g).length) (tgt := 37) dX7_place_12 (by decide) (by omega) (by omega) (fun z3 => ?_) (fun z4 => ?_)
      · refine jd_iconst (v := (-1)) dX7_place_37 (by decide) ?_
        exact jd_iret dX7_place_38 rfl ⟨by rw [placeOf, ll_find_none hno]; rfl, rfl⟩
      · omega
    | succ j ih2 =>
      intro k hk0 hno
      have hq2 := q_lt hI hg (j := k) (by omega)
      refine jd_iload_n dX7_place_2 rfl ?_
      refine jd_aload_n dX7_place_3 rfl ?_
      refine jd_get in_X7 (((w_gate hw)) g (show g < nG κ by omega)) 7 q791 dX7_place_4 rfl (Nat.le_of_ble_eq_true rfl) rfl ?_
      obtain ⟨mcq5, hqu5⟩ := w_queue hw g (show g < nG κ by omega)
      have hql5 := (hIg g (show g < nG κ by omega)).2.2.1
      refine jd_pF (n := 0) (As := []) (rest := [.int (nI k)]) (ct_J2_size hqu5 (by omega)) (jd_rv hqu5 15 rfl rfl) (ci := 15) rfl (List.mem_of_getElem? (i := 2) rfl) rfl q368 q342 q344 q83 q346 q341 q345 q343 q207 ⟨by decide, by decide, by decide +kernel⟩ dX7_place_7 rfl rfl (Nat.le_of_ble_eq_true rfl) ⟨(Nat.le_of_ble_eq_true rfl), (Nat.le_of_ble_eq_true rfl)⟩ ?_
      refine jd_ncmp_ge (a := k) (b := (gQue κ g).length) (tgt := 37) dX7_place_12 (by decide) (by omega) (by omega) (fun z6 => ?_) (fun z7 => ?_)
      · omega
      · refine jd_aload_n dX7_place_15 rfl ?_
        refine jd_get in_X7 (((w_gate hw)) g (show g < nG κ by omega)) 7 q791 dX7_place_16 rfl (Nat.le_of_ble_eq_true rfl) rfl ?_
        refine jd_iload_n dX7_place_19 rfl ?_
        refine jd_pF (n := 1) (As := [.int (nI k)]) (rest := []) (ct_J2_get hqu5 (by omega) (k := k) (show k < (gQue κ g).length by omega)) (jd_rv hqu5 15 rfl rfl) (ci := 15) rfl (List.mem_of_getElem? (i := 1) rfl) rfl q370 q323 q325 q83 q327 q322 q326 q324 q207 ⟨by decide, by decide, by decide +kernel⟩ dX7_place_20 rfl rfl (Nat.le_of_ble_eq_true rfl) ⟨(Nat.le_of_ble_eq_true rfl), (Nat.le_of_ble_eq_true rfl)⟩ ?_
        refine jd_aload_n dX7_place_25 rfl ?_
        refine jd_acmpI_ne (i := (qAt κ g k)) (j := s) (tgt := 31) (((w_sleeper hw)) (qAt κ g k) (show qAt κ g k < nS κ by omega)) (((w_sleeper hw)) s (show s < nS κ by omega)) dX7_place_26 (by decide) (fun z8 => ?_) (fun z9 => ?_)
        · have hno2 : ∀ i, i < k + 1 → ¬ qAt κ g i = s := fun i hi => by rcases Nat.lt_succ_iff_lt_or_eq.mp hi with w | w; exact hno i w; exact w ▸ z8
          refine jd_iincN (n := 1) (ls' := [_, _, _]) dX7_place_31 rfl (Nat.le_of_ble_eq_true rfl) rfl rfl ?_
          refine jd_goto (tgt := 2) dX7_place_34 (by decide) ?_
          refine jd_lsub [some (.ref (β 2 g)), some (.ref (β 5 s)), some (.int (nI (k + 1)))] ⟨rfl, rfl, rfl, trivial⟩ ?_
          exact ih2 (k + 1) (by omega) hno2
        · refine jd_iload_n dX7_place_29 rfl ?_
          exact jd_iret dX7_place_30 rfl ⟨by rw [placeOf, ll_find_some (k := k) (by omega) z9 hno]; rfl, rfl⟩
  refine jd_lsub [some (.ref (β 2 g)), some (.ref (β 5 s)), some (.int (nI 0))] ⟨rfl, rfl, rfl, trivial⟩ ?_
  exact lp2_1 ((gQue κ g).length) 0 (by omega) (fun i hi => absurd hi (Nat.not_lt_zero i))

set_option maxRecDepth 20000 in
set_option maxHeartbeats 2000000 in
theorem ct_X1_isGoodNow {G : jd_G} {β : ll_B} {κ : ll_K} {h : jd_H} (hw : WC G β κ h) (hI : ll_I κ) (s g : Nat) (hs : s < nS κ) (hg : g < nG κ) : jd_Ct G mX1_isGoodNow 3 (0) (0) [.ref (β 0 0), .ref (β 5 s), .int (nI g)] h (jd_pu h (.int (jd_b (goodNow κ s g)))) jd_no := by
  obtain ⟨⟨hG8, hS12, hP24, hH40, hN99, hH24⟩, hIg, hIs, hIp, hIh, hIl, hIq⟩ := id hI
  obtain ⟨mcL, hlL⟩ := w_lands hw
  obtain ⟨mcG, hlG⟩ := w_gates hw
  obtain ⟨mcS, hlS⟩ := w_sleepers hw
  obtain ⟨mcP, hlP⟩ := w_parts hw
  obtain ⟨mcH, hlH⟩ := w_hidings hw
  refine jd_ct (ls := [some (.ref (β 0 0)), some (.ref (β 5 s)), some (.int (nI g)), none, none, none, none]) rfl rfl (by decide) (Nat.le_of_ble_eq_true rfl) rfl ?_
  refine jd_aload_n dX1_isGoodNow_0 rfl ?_
  refine jd_getN in_X9 (((w_sleeper hw)) s (show s < nS κ by omega)) 7 q864 dX1_isGoodNow_1 rfl (Nat.le_of_ble_eq_true rfl) rfl ?_
  refine jd_pV (As := []) (rest := []) (ct_pres hw (k := s) (show s < nS κ by omega)) (w_rvO hw (k := s) (show s < nS κ by omega)) rfl q497 q498 q499 q108 q500 nJ17_isPresent dX1_isGoodNow_4 rfl rfl rfl (Nat.le_of_ble_eq_true rfl) ⟨(Nat.le_of_ble_eq_true rfl), (Nat.le_of_ble_eq_true rfl)⟩ ?_
  refine jd_bif_ne (tgt := 12) dX1_isGoodNow_7 (by decide) (fun z1 => ?_) (fun z2 => ?_)
  · have hps : (sPass κ s).isSome = true := z1
    obtain ⟨hpb1, hpb2, hpb3⟩ := ps_bd hI hs hps
    refine jd_aload_n dX1_isGoodNow_12 rfl ?_
    refine jd_getN in_X9 (((w_sleeper hw)) s (show s < nS κ by omega)) 7 q864 dX1_isGoodNow_13 rfl (Nat.le_of_ble_eq_true rfl) rfl ?_
    refine jd_pV (As := []) (rest := []) (ct_J17_get (w_passI hw (k := s) (show s < nS κ by omega) (by assumption)).1) (w_rvO hw (k := s) (show s < nS κ by omega)) rfl q501 q502 q503 q108 q504 nJ17_get dX1_isGoodNow_16 rfl rfl rfl (Nat.le_of_ble_eq_true rfl) ⟨(Nat.le_of_ble_eq_true rfl), (Nat.le_of_ble_eq_true rfl)⟩ ?_
    refine jd_castS (jd_rv (w_passI hw (k := s) (show s < nS κ by omega) (by assumption)).2 6 rfl rfl) (ci := 6) rfl q505 dX1_isGoodNow_19 ?_
    refine jd_astore_n (ls' := [_, _, _, _, _, _, _]) dX1_isGoodNow_22 (Nat.le_of_ble_eq_true rfl) rfl rfl ?_
    refine jd_aload_n dX1_isGoodNow_23 rfl ?_
    refine jd_get in_X1 ((w_this hw)) 1 q284 dX1_isGoodNow_24 rfl (Nat.le_of_ble_eq_true rfl) rfl ?_
    refine jd_iload_n dX1_isGoodNow_27 rfl ?_
    refine jd_pF (n := 1) (As := [.int (nI g)]) (rest := []) (ct_J2_get hlG (show nG κ ≤ 900 by omega) (k := g) (show g < nG κ by omega)) (jd_rv hlG 15 rfl rfl) (ci := 15) rfl (List.mem_of_getElem? (i := 1) rfl) rfl q320 q323 q325 q83 q327 q322 q326 q324 q207 ⟨by decide, by decide, by decide +kernel⟩ dX1_isGoodNow_28 rfl rfl (Nat.le_of_ble_eq_true rfl) ⟨(Nat.le_of_ble_eq_true rfl), (Nat.le_of_ble_eq_true rfl)⟩ ?_
    refine jd_castS (jd_rv (((w_gate hw)) g (show g < nG κ by omega)) 3 rfl rfl) (ci := 3) rfl q347 dX1_isGoodNow_33 ?_
    refine jd_astore (ls' := [_, _, _, _, _, _, _]) dX1_isGoodNow_36 (Nat.le_of_ble_eq_true rfl) rfl rfl ?_
    refine jd_aload_n dX1_isGoodNow_38 rfl ?_
    refine jd_getN in_X13 (w_passI hw (k := s) (show s < nS κ by omega) (by assumption)).2 2 q958 dX1_isGoodNow_39 rfl (Nat.le_of_ble_eq_true rfl) rfl ?_
    refine jd_aload_n dX1_isGoodNow_42 rfl ?_
    refine jd_iload_n dX1_isGoodNow_43 rfl ?_
    refine jd_aload_n dX1_isGoodNow_44 rfl ?_
    refine jd_get in_X1 ((w_this hw)) 6 q289 dX1_isGoodNow_45 rfl (Nat.le_of_ble_eq_true rfl) rfl ?_
    refine jd_pV (As := [.int (nI g), .int (nI ((nNight κ)))]) (rest := [.int (nI ((psV κ s)))]) (ct_X9_right (((w_sleeper hw)) s (show s < nS κ by omega)) (nI g) (nI ((nNight κ)))) (jd_rv (((w_sleeper hw)) s (show s < nS κ by omega)) 4 rfl rfl) rfl q506 q507 q508 q105 q509 nX9_right dX1_isGoodNow_48 rfl rfl rfl (Nat.le_of_ble_eq_true rfl) ⟨(Nat.le_of_ble_eq_true rfl), (Nat.le_of_ble_eq_true rfl)⟩ ?_
    refine jd_isub dX1_isGoodNow_51 ?_
    refine jd_mabs q510 q511 q87 q512 dX1_isGoodNow_52 (Nat.le_of_ble_eq_true rfl) (Nat.le_of_ble_eq_true rfl) ?_
    refine jd_istore (ls' := [_, _, _, _, _, _, _]) dX1_isGoodNow_55 (Nat.le_of_ble_eq_true rfl) rfl rfl ?_
    refine jd_aload dX1_isGoodNow_57 rfl ?_
    refine jd_pV (As := []) (rest := []) (ct_X7_isDozing (((w_gate hw)) g (show g < nG κ by omega))) (jd_rv (((w_gate hw)) g (show g < nG κ by omega)) 3 rfl rfl) rfl q461 q462 q463 q103 q464 nX7_isDozing dX1_isGoodNow_59 rfl rfl rfl (Nat.le_of_ble_eq_true rfl) ⟨(Nat.le_of_ble_eq_true rfl), (Nat.le_of_ble_eq_true rfl)⟩ ?_
    refine jd_mg1 102 (.int (jd_b (((((¬ (((gWatch κ g)) < 5))) ∧ (¬ (1 < (if 0 ≤ (nI ((psV κ s)) - (jd_rem ((((13 * (nI s)) + (29 * (nI g))) + (7 * (nI ((nNight κ)))))) (97))) then (nI ((psV κ s)) - (jd_rem ((((13 * (nI s)) + (29 * (nI g))) + (7 * (nI ((nNight κ)))))) (97))) else (0 - (nI ((psV κ s)) - (jd_rem ((((13 * (nI s)) + (29 * (nI g))) + (7 * (nI ((nNight κ)))))) (97)))))))) ∨ (¬ ((¬ (((gWatch κ g)) < 5))) ∧ (((if 0 ≤ (nI ((psV κ s)) - (jd_rem ((((13 * (nI s)) + (29 * (nI g))) + (7 * (nI ((nNight κ)))))) (97))) then (nI ((psV κ s)) - (jd_rem ((((13 * (nI s)) + (29 * (nI g))) + (7 * (nI ((nNight κ)))))) (97))) else (0 - (nI ((psV κ s)) - (jd_rem ((((13 * (nI s)) + (29 * (nI g))) + (7 * (nI ((nNight κ)))))) (97))))) = 0) ∧ (¬ (gRev κ g ((psV κ s)) = true)))))))) (fun hj3 => ?_) ?_
    · refine jd_bif_eq (tgt := 79) dX1_isGoodNow_62 (by decide) (fun z4 => ?_) (fun z5 => ?_)
      · refine jd_iload dX1_isGoodNow_79 rfl ?_
        refine jd_if_ne (tgt := 101) dX1_isGoodNow_81 (by decide) (fun z6 => ?_) (fun z7 => ?_)
        · refine jd_iconst (v := 0) dX1_isGoodNow_101 (by decide) ?_
          exact jd_top (congrArg Value.int (jd_b0 (fun w => w.elim (fun w1 => z4 w1.1) (fun w1 => (fun w => z6 w.1) w1.2))).symm) hj3
        · refine jd_aload dX1_isGoodNow_84 rfl ?_
          refine jd_getN in_X7 (((w_gate hw)) g (show g < nG κ by omega)) 6 q790 dX1_isGoodNow_86 rfl (Nat.le_of_ble_eq_true rfl) rfl ?_
          refine jd_aload_n dX1_isGoodNow_89 rfl ?_
          refine jd_getN in_X13 (w_passI hw (k := s) (show s < nS κ by omega) (by assumption)).2 2 q958 dX1_isGoodNow_90 rfl (Nat.le_of_ble_eq_true rfl) rfl ?_
          refine jd_zald (((w_rev hw)) g (show g < nG κ by omega)) dX1_isGoodNow_93 (vp_in_nI (by omega) (by omega)) ?_
          refine jd_top (w := .int (jd_b (gRev κ g ((psV κ s)) = true))) (by rw [nI_clamp (by omega)]) ?_
          refine jd_bif_ne (tgt := 101) dX1_isGoodNow_94 (by decide) (fun z8 => ?_) (fun z9 => ?_)
          · refine jd_iconst (v := 0) dX1_isGoodNow_101 (by decide) ?_
            exact jd_top (congrArg Value.int (jd_b0 (fun w => w.elim (fun w1 => z4 w1.1) (fun w1 => (fun w => (fun w => w z8) w.2) w1.2))).symm) hj3
          · refine jd_iconst (v := 1) dX1_isGoodNow_97 (by decide) ?_
            refine jd_goto (tgt := 102) dX1_isGoodNow_98 (by decide) ?_
            exact jd_top (congrArg Value.int (jd_b1 (Or.inr ⟨z4, ⟨z7, z9⟩⟩)).symm) hj3
      · refine jd_iload dX1_isGoodNow_65 rfl ?_
        refine jd_iconst (v := 1) dX1_isGoodNow_67 (by decide) ?_
        refine jd_icmp_gt (tgt := 75) dX1_isGoodNow_68 (by decide) (fun z10 => ?_) (fun z11 => ?_)
        · refine jd_iconst (v := 0) dX1_isGoodNow_75 (by decide) ?_
          refine jd_goto (tgt := 102) dX1_isGoodNow_76 (by decide) ?_
          exact jd_top (congrArg Value.int (jd_b0 (fun w => w.elim (fun w1 => (fun w => w z10) w1.2) (fun w1 => w1.1 z5))).symm) hj3
        · refine jd_iconst (v := 1) dX1_isGoodNow_71 (by decide) ?_
          refine jd_goto (tgt := 102) dX1_isGoodNow_72 (by decide) ?_
          exact jd_top (congrArg Value.int (jd_b1 (Or.inl ⟨z5, z11⟩)).symm) hj3
    · refine jd_istore (ls' := [_, _, _, _, _, _, _]) dX1_isGoodNow_102 (Nat.le_of_ble_eq_true rfl) rfl rfl ?_
      refine jd_aload_n dX1_isGoodNow_104 rfl ?_
      refine jd_getN in_X13 (w_passI hw (k := s) (show s < nS κ by omega) (by assumption)).2 0 q954 dX1_isGoodNow_105 rfl (Nat.le_of_ble_eq_true rfl) rfl ?_
      refine jd_iload_n dX1_isGoodNow_108 rfl ?_
      refine jd_mg2 133 (.int (jd_b ((((psG κ s) = g) ∧ (((psN κ s) = (nNight κ)) ∧ (((((¬ (((gWatch κ g)) < 5))) ∧ (¬ (1 < (if 0 ≤ (nI ((psV κ s)) - (jd_rem ((((13 * (nI s)) + (29 * (nI g))) + (7 * (nI ((nNight κ)))))) (97))) then (nI ((psV κ s)) - (jd_rem ((((13 * (nI s)) + (29 * (nI g))) + (7 * (nI ((nNight κ)))))) (97))) else (0 - (nI ((psV κ s)) - (jd_rem ((((13 * (nI s)) + (29 * (nI g))) + (7 * (nI ((nNight κ)))))) (97)))))))) ∨ (¬ ((¬ (((gWatch κ g)) < 5))) ∧ (((if 0 ≤ (nI ((psV κ s)) - (jd_rem ((((13 * (nI s)) + (29 * (nI g))) + (7 * (nI ((nNight κ)))))) (97))) then (nI ((psV κ s)) - (jd_rem ((((13 * (nI s)) + (29 * (nI g))) + (7 * (nI ((nNight κ)))))) (97))) else (0 - (nI ((psV κ s)) - (jd_rem ((((13 * (nI s)) + (29 * (nI g))) + (7 * (nI ((nNight κ)))))) (97))))) = 0) ∧ (¬ (gRev κ g ((psV κ s)) = true))))))))))) (fun hj12 => ?_) ?_
      · refine jd_ncmp_ne (a := (psG κ s)) (b := g) (tgt := 132) dX1_isGoodNow_109 (by decide) (by omega) (by omega) (fun z13 => ?_) (fun z14 => ?_)
        · refine jd_iconst (v := 0) dX1_isGoodNow_132 (by decide) ?_
          exact jd_top (congrArg Value.int (jd_b0 (fun w => z13 w.1)).symm) hj12
        · refine jd_aload_n dX1_isGoodNow_112 rfl ?_
          refine jd_getN in_X13 (w_passI hw (k := s) (show s < nS κ by omega) (by assumption)).2 1 q956 dX1_isGoodNow_113 rfl (Nat.le_of_ble_eq_true rfl) rfl ?_
          refine jd_aload_n dX1_isGoodNow_116 rfl ?_
          refine jd_get in_X1 ((w_this hw)) 6 q289 dX1_isGoodNow_117 rfl (Nat.le_of_ble_eq_true rfl) rfl ?_
          refine jd_ncmp_ne (a := (psN κ s)) (b := (nNight κ)) (tgt := 132) dX1_isGoodNow_120 (by decide) (by omega) (by omega) (fun z15 => ?_) (fun z16 => ?_)
          · refine jd_iconst (v := 0) dX1_isGoodNow_132 (by decide) ?_
            exact jd_top (congrArg Value.int (jd_b0 (fun w => (fun w => z15 w.1) w.2)).symm) hj12
          · refine jd_iload dX1_isGoodNow_123 rfl ?_
            refine jd_bif_eq (tgt := 132) dX1_isGoodNow_125 (by decide) (fun z17 => ?_) (fun z18 => ?_)
            · refine jd_iconst (v := 0) dX1_isGoodNow_132 (by decide) ?_
              exact jd_top (congrArg Value.int (jd_b0 (fun w => (fun w => z17 w.2) w.2)).symm) hj12
            · refine jd_iconst (v := 1) dX1_isGoodNow_128 (by decide) ?_
              refine jd_goto (tgt := 133) dX1_isGoodNow_129 (by decide) ?_
              exact jd_top (congrArg Value.int (jd_b1 ⟨z14, ⟨z16, z18⟩⟩).symm) hj12
      · exact jd_zret dX1_isGoodNow_133 rfl (jd_b01 _) ⟨congrArg (fun x => some (Value.int x)) (jd_bcong ⟨fun w => ⟨hps, w⟩, fun w => w.2⟩), rfl⟩
  · refine jd_iconst (v := 0) dX1_isGoodNow_10 (by decide) ?_
    exact jd_zret dX1_isGoodNow_11 rfl (Or.inl rfl) ⟨congrArg (fun x => some (Value.int x)) (jd_b0 (fun w => z2 w.1)).symm, rfl⟩

set_option maxRecDepth 20000 in
set_option maxHeartbeats 2000000 in
theorem ct_X1_landNow {G : jd_G} {β : ll_B} {κ : ll_K} {h : jd_H} (hw : WC G β κ h) (hI : ll_I κ) (l : Nat) (hl : l < 6) (w : Nat) (hw8 : w ≤ 8) : jd_Ct G mX1_landNow 5 (0) (0) [.ref (β 0 0), .int (nI l), .int (nI w)] h (jd_pu h (.int (landVal κ l w))) jd_no := by
  obtain ⟨⟨hG8, hS12, hP24, hH40, hN99, hH24⟩, hIg, hIs, hIp, hIh, hIl, hIq⟩ := id hI
  obtain ⟨mcL, hlL⟩ := w_lands hw
  obtain ⟨mcG, hlG⟩ := w_gates hw
  obtain ⟨mcS, hlS⟩ := w_sleepers hw
  obtain ⟨mcP, hlP⟩ := w_parts hw
  obtain ⟨mcH, hlH⟩ := w_hidings hw
  refine jd_ct (ls := [some (.ref (β 0 0)), some (.int (nI l)), some (.int (nI w)), none]) rfl rfl (by decide) (Nat.le_of_ble_eq_true rfl) rfl ?_
  refine jd_aload_n dX1_landNow_0 rfl ?_
  refine jd_get in_X1 ((w_this hw)) 0 q283 dX1_landNow_1 rfl (Nat.le_of_ble_eq_true rfl) rfl ?_
  refine jd_iload_n dX1_landNow_4 rfl ?_
  refine jd_pF (n := 1) (As := [.int (nI l)]) (rest := []) (ct_J2_get hlL (show 6 ≤ 900 by omega) (k := l) (show l < 6 by omega)) (jd_rv hlL 15 rfl rfl) (ci := 15) rfl (List.mem_of_getElem? (i := 1) rfl) rfl q320 q323 q325 q83 q327 q322 q326 q324 q207 ⟨by decide, by decide, by decide +kernel⟩ dX1_landNow_5 rfl rfl (Nat.le_of_ble_eq_true rfl) ⟨(Nat.le_of_ble_eq_true rfl), (Nat.le_of_ble_eq_true rfl)⟩ ?_
  refine jd_castS (jd_rv (((w_land hw)) l (show l < 6 by omega)) 2 rfl rfl) (ci := 2) rfl q175 dX1_landNow_10 ?_
  refine jd_astore_n (ls' := [_, _, _, _]) dX1_landNow_13 (Nat.le_of_ble_eq_true rfl) rfl rfl ?_
  refine jd_iload_n dX1_landNow_14 rfl ?_
  rcases (by omega : w = 0 ∨ w = 1 ∨ w = 2 ∨ w = 3 ∨ w = 4 ∨ w = 5 ∨ w = 6 ∨ w = 7 ∨ w = 8) with e1 | e1 | e1 | e1 | e1 | e1 | e1 | e1 | e1
  · refine jd_tabN (w := w) (j := 0) (off := 45) (tgt := 60) dX1_landNow_15 e1 (by decide) (by decide) (by decide) rfl (by decide) ?_
    refine jd_aload_n dX1_landNow_60 rfl ?_
    refine jd_getN in_X3 (((w_land hw)) l (show l < 6 by omega)) 0 q182 dX1_landNow_61 rfl (Nat.le_of_ble_eq_true rfl) rfl ?_
    exact jd_iret dX1_landNow_64 rfl ⟨by subst e1; rfl, rfl⟩
  · refine jd_tabN (w := w) (j := 1) (off := 50) (tgt := 65) dX1_landNow_15 e1 (by decide) (by decide) (by decide) rfl (by decide) ?_
    refine jd_aload_n dX1_landNow_65 rfl ?_
    refine jd_getN in_X3 (((w_land hw)) l (show l < 6 by omega)) 1 q184 dX1_landNow_66 rfl (Nat.le_of_ble_eq_true rfl) rfl ?_
    exact jd_iret dX1_landNow_69 rfl ⟨by subst e1; rfl, rfl⟩
  · refine jd_tabN (w := w) (j := 2) (off := 55) (tgt := 70) dX1_landNow_15 e1 (by decide) (by decide) (by decide) rfl (by decide) ?_
    refine jd_aload_n dX1_landNow_70 rfl ?_
    refine jd_getN in_X3 (((w_land hw)) l (show l < 6 by omega)) 2 q186 dX1_landNow_71 rfl (Nat.le_of_ble_eq_true rfl) rfl ?_
    exact jd_iret dX1_landNow_74 rfl ⟨by subst e1; rfl, rfl⟩
  · refine jd_tabN (w := w) (j := 3) (off := 60) (tgt := 75) dX1_landNow_15 e1 (by decide) (by decide) (by decide) rfl (by decide) ?_
    refine jd_aload_n dX1_landNow_75 rfl ?_
    refine jd_getN in_X3 (((w_land hw)) l (show l < 6 by omega)) 3 q187 dX1_landNow_76 rfl (Nat.le_of_ble_eq_true rfl) rfl ?_
    exact jd_iret dX1_landNow_79 rfl ⟨by subst e1; rfl, rfl⟩
  · refine jd_tabN (w := w) (j := 4) (off := 65) (tgt := 80) dX1_landNow_15 e1 (by decide) (by decide) (by decide) rfl (by decide) ?_
    refine jd_aload_n dX1_landNow_80 rfl ?_
    refine jd_getN in_X3 (((w_land hw)) l (show l < 6 by omega)) 4 q188 dX1_landNow_81 rfl (Nat.le_of_ble_eq_true rfl) rfl ?_
    exact jd_iret dX1_landNow_84 rfl ⟨by subst e1; rfl, rfl⟩
  · refine jd_tabN (w := w) (j := 5) (off := 70) (tgt := 85) dX1_landNow_15 e1 (by decide) (by decide) (by decide) rfl (by decide) ?_
    refine jd_aload_n dX1_landNow_85 rfl ?_
    refine jd_getN in_X3 (((w_land hw)) l (show l < 6 by omega)) 5 q189 dX1_landNow_86 rfl (Nat.le_of_ble_eq_true rfl) rfl ?_
    exact jd_iret dX1_landNow_89 rfl ⟨by subst e1; rfl, rfl⟩
  · refine jd_tabN (w := w) (j := 6) (off := 75) (tgt := 90) dX1_landNow_15 e1 (by decide) (by decide) (by decide) rfl (by decide) ?_
    refine jd_aload_n dX1_landNow_90 rfl ?_
    refine jd_iload_n dX1_landNow_91 rfl ?_
    refine jd_pV (As := [.int (nI l)]) (rest := []) (ct_X1_storeOf hw hI (l) (by omega)) (jd_rv ((w_this hw)) 0 rfl rfl) rfl q433 q435 qs12 q80 q436 nX1_storeOf dX1_landNow_92 rfl rfl rfl (Nat.le_of_ble_eq_true rfl) ⟨(Nat.le_of_ble_eq_true rfl), (Nat.le_of_ble_eq_true rfl)⟩ ?_
    exact jd_iret dX1_landNow_95 rfl ⟨by subst e1; rfl, rfl⟩
  · refine jd_tabN (w := w) (j := 7) (off := 81) (tgt := 96) dX1_landNow_15 e1 (by decide) (by decide) (by decide) rfl (by decide) ?_
    refine jd_aload_n dX1_landNow_96 rfl ?_
    refine jd_iload_n dX1_landNow_97 rfl ?_
    refine jd_pV (As := [.int (nI l)]) (rest := []) (ct_X1_sleepersIn hw hI (l) (by omega)) (jd_rv ((w_this hw)) 0 rfl rfl) rfl q437 q439 qs13 q80 q440 nX1_sleepersIn dX1_landNow_98 rfl rfl rfl (Nat.le_of_ble_eq_true rfl) ⟨(Nat.le_of_ble_eq_true rfl), (Nat.le_of_ble_eq_true rfl)⟩ ?_
    exact jd_iret dX1_landNow_101 rfl ⟨by subst e1; rfl, rfl⟩
  · refine jd_tabD (w := w) (j := 8) (tgt := 102) dX1_landNow_15 e1 (by decide) (by decide) (by decide) ?_
    refine jd_aload_n dX1_landNow_102 rfl ?_
    refine jd_iload_n dX1_landNow_103 rfl ?_
    refine jd_pV (As := [.int (nI l)]) (rest := []) (ct_X1_whole hw hI (l) (by omega)) (jd_rv ((w_this hw)) 0 rfl rfl) rfl q441 q443 qs14 q80 q444 nX1_whole dX1_landNow_104 rfl rfl rfl (Nat.le_of_ble_eq_true rfl) ⟨(Nat.le_of_ble_eq_true rfl), (Nat.le_of_ble_eq_true rfl)⟩ ?_
    exact jd_iret dX1_landNow_107 rfl ⟨by subst e1; rfl, rfl⟩

set_option maxRecDepth 20000 in
set_option maxHeartbeats 2000000 in
theorem ct_X1_gateNow {G : jd_G} {β : ll_B} {κ : ll_K} {h : jd_H} (hw : WC G β κ h) (hI : ll_I κ) (g : Nat) (hg : g < nG κ) (w : Nat) (hw9 : w ≤ 9) : jd_Ct G mX1_gateNow 5 (0) (0) [.ref (β 0 0), .int (nI g), .int (nI w)] h (jd_pu h (.int (gateVal κ g w))) jd_no := by
  obtain ⟨⟨hG8, hS12, hP24, hH40, hN99, hH24⟩, hIg, hIs, hIp, hIh, hIl, hIq⟩ := id hI
  obtain ⟨mcL, hlL⟩ := w_lands hw
  obtain ⟨mcG, hlG⟩ := w_gates hw
  obtain ⟨mcS, hlS⟩ := w_sleepers hw
  obtain ⟨mcP, hlP⟩ := w_parts hw
  obtain ⟨mcH, hlH⟩ := w_hidings hw
  refine jd_ct (ls := [some (.ref (β 0 0)), some (.int (nI g)), some (.int (nI w)), none]) rfl rfl (by decide) (Nat.le_of_ble_eq_true rfl) rfl ?_
  refine jd_aload_n dX1_gateNow_0 rfl ?_
  refine jd_get in_X1 ((w_this hw)) 1 q284 dX1_gateNow_1 rfl (Nat.le_of_ble_eq_true rfl) rfl ?_
  refine jd_iload_n dX1_gateNow_4 rfl ?_
  have hql := (hIg g hg).2.2.1
  refine jd_pF (n := 1) (As := [.int (nI g)]) (rest := []) (ct_J2_get hlG (show nG κ ≤ 900 by omega) (k := g) (show g < nG κ by omega)) (jd_rv hlG 15 rfl rfl) (ci := 15) rfl (List.mem_of_getElem? (i := 1) rfl) rfl q320 q323 q325 q83 q327 q322 q326 q324 q207 ⟨by decide, by decide, by decide +kernel⟩ dX1_gateNow_5 rfl rfl (Nat.le_of_ble_eq_true rfl) ⟨(Nat.le_of_ble_eq_true rfl), (Nat.le_of_ble_eq_true rfl)⟩ ?_
  refine jd_castS (jd_rv (((w_gate hw)) g (show g < nG κ by omega)) 3 rfl rfl) (ci := 3) rfl q347 dX1_gateNow_10 ?_
  refine jd_astore_n (ls' := [_, _, _, _]) dX1_gateNow_13 (Nat.le_of_ble_eq_true rfl) rfl rfl ?_
  refine jd_iload_n dX1_gateNow_14 rfl ?_
  rcases (by omega : w = 0 ∨ w = 1 ∨ w = 2 ∨ w = 3 ∨ w = 4 ∨ w = 5 ∨ w = 6 ∨ w = 7 ∨ w = 8 ∨ w = 9) with e1 | e1 | e1 | e1 | e1 | e1 | e1 | e1 | e1 | e1
  · refine jd_tabN (w := w) (j := 0) (off := 49) (tgt := 64) dX1_gateNow_15 e1 (by decide) (by decide) (by decide) rfl (by decide) ?_
    refine jd_aload_n dX1_gateNow_64 rfl ?_
    refine jd_getN in_X7 (((w_gate hw)) g (show g < nG κ by omega)) 0 q780 dX1_gateNow_65 rfl (Nat.le_of_ble_eq_true rfl) rfl ?_
    exact jd_iret dX1_gateNow_68 rfl ⟨by subst e1; rfl, rfl⟩
  · refine jd_tabN (w := w) (j := 1) (off := 54) (tgt := 69) dX1_gateNow_15 e1 (by decide) (by decide) (by decide) rfl (by decide) ?_
    refine jd_aload_n dX1_gateNow_69 rfl ?_
    refine jd_getN in_X7 (((w_gate hw)) g (show g < nG κ by omega)) 1 q782 dX1_gateNow_70 rfl (Nat.le_of_ble_eq_true rfl) rfl ?_
    exact jd_iret dX1_gateNow_73 rfl ⟨by subst e1; rfl, rfl⟩
  · refine jd_tabN (w := w) (j := 2) (off := 59) (tgt := 74) dX1_gateNow_15 e1 (by decide) (by decide) (by decide) rfl (by decide) ?_
    refine jd_aload_n dX1_gateNow_74 rfl ?_
    refine jd_aload_n dX1_gateNow_75 rfl ?_
    refine jd_get in_X1 ((w_this hw)) 7 q290 dX1_gateNow_76 rfl (Nat.le_of_ble_eq_true rfl) rfl ?_
    refine jd_pV (As := [.int (nI ((nHour κ)))]) (rest := []) (ct_X7_isOpen (((w_gate hw)) g (show g < nG κ by omega)) (nI ((nHour κ)))) (jd_rv (((w_gate hw)) g (show g < nG κ by omega)) 3 rfl rfl) rfl q457 q458 q459 q103 q460 nX7_isOpen dX1_gateNow_79 rfl rfl rfl (Nat.le_of_ble_eq_true rfl) ⟨(Nat.le_of_ble_eq_true rfl), (Nat.le_of_ble_eq_true rfl)⟩ ?_
    refine jd_mg1 90 (.int (jd_b (((¬ (((gHours κ g)) ≤ (jd_rem ((((nI ((nHour κ))) - ((gFrom κ g))) + 24)) (24)))))))) (fun hj2 => ?_) ?_
    · refine jd_bif_eq (tgt := 89) dX1_gateNow_82 (by decide) (fun z3 => ?_) (fun z4 => ?_)
      · refine jd_iconst (v := 0) dX1_gateNow_89 (by decide) ?_
        exact jd_top (congrArg Value.int (jd_b0 z3).symm) hj2
      · refine jd_iconst (v := 1) dX1_gateNow_85 (by decide) ?_
        refine jd_goto (tgt := 90) dX1_gateNow_86 (by decide) ?_
        exact jd_top (congrArg Value.int (jd_b1 z4).symm) hj2
    · exact jd_iret dX1_gateNow_90 rfl ⟨by subst e1; rfl, rfl⟩
  · refine jd_tabN (w := w) (j := 3) (off := 76) (tgt := 91) dX1_gateNow_15 e1 (by decide) (by decide) (by decide) rfl (by decide) ?_
    refine jd_aload_n dX1_gateNow_91 rfl ?_
    refine jd_getN in_X7 (((w_gate hw)) g (show g < nG κ by omega)) 4 q786 dX1_gateNow_92 rfl (Nat.le_of_ble_eq_true rfl) rfl ?_
    exact jd_iret dX1_gateNow_95 rfl ⟨by subst e1; rfl, rfl⟩
  · refine jd_tabN (w := w) (j := 4) (off := 81) (tgt := 96) dX1_gateNow_15 e1 (by decide) (by decide) (by decide) rfl (by decide) ?_
    refine jd_aload_n dX1_gateNow_96 rfl ?_
    refine jd_getN in_X7 (((w_gate hw)) g (show g < nG κ by omega)) 5 q788 dX1_gateNow_97 rfl (Nat.le_of_ble_eq_true rfl) rfl ?_
    exact jd_iret dX1_gateNow_100 rfl ⟨by subst e1; rfl, rfl⟩
  · refine jd_tabN (w := w) (j := 5) (off := 86) (tgt := 101) dX1_gateNow_15 e1 (by decide) (by decide) (by decide) rfl (by decide) ?_
    refine jd_aload_n dX1_gateNow_101 rfl ?_
    refine jd_pV (As := []) (rest := []) (ct_X7_isDozing (((w_gate hw)) g (show g < nG κ by omega))) (jd_rv (((w_gate hw)) g (show g < nG κ by omega)) 3 rfl rfl) rfl q461 q462 q463 q103 q464 nX7_isDozing dX1_gateNow_102 rfl rfl rfl (Nat.le_of_ble_eq_true rfl) ⟨(Nat.le_of_ble_eq_true rfl), (Nat.le_of_ble_eq_true rfl)⟩ ?_
    refine jd_mg1 113 (.int (jd_b (((¬ (((gWatch κ g)) < 5)))))) (fun hj5 => ?_) ?_
    · refine jd_bif_eq (tgt := 112) dX1_gateNow_105 (by decide) (fun z6 => ?_) (fun z7 => ?_)
      · refine jd_iconst (v := 0) dX1_gateNow_112 (by decide) ?_
        exact jd_top (congrArg Value.int (jd_b0 z6).symm) hj5
      · refine jd_iconst (v := 1) dX1_gateNow_108 (by decide) ?_
        refine jd_goto (tgt := 113) dX1_gateNow_109 (by decide) ?_
        exact jd_top (congrArg Value.int (jd_b1 z7).symm) hj5
    · exact jd_iret dX1_gateNow_113 rfl ⟨by subst e1; rfl, rfl⟩
  · refine jd_tabN (w := w) (j := 6) (off := 99) (tgt := 114) dX1_gateNow_15 e1 (by decide) (by decide) (by decide) rfl (by decide) ?_
    refine jd_aload_n dX1_gateNow_114 rfl ?_
    refine jd_getN in_X7 (((w_gate hw)) g (show g < nG κ by omega)) 7 q792 dX1_gateNow_115 rfl (Nat.le_of_ble_eq_true rfl) rfl ?_
    obtain ⟨mcq8, hqu8⟩ := w_queue hw g (show g < nG κ by omega)
    have hql8 := (hIg g (show g < nG κ by omega)).2.2.1
    refine jd_pF (n := 0) (As := []) (rest := []) (ct_J2_size hqu8 (by omega)) (jd_rv hqu8 15 rfl rfl) (ci := 15) rfl (List.mem_of_getElem? (i := 2) rfl) rfl q339 q342 q344 q83 q346 q341 q345 q343 q207 ⟨by decide, by decide, by decide +kernel⟩ dX1_gateNow_118 rfl rfl (Nat.le_of_ble_eq_true rfl) ⟨(Nat.le_of_ble_eq_true rfl), (Nat.le_of_ble_eq_true rfl)⟩ ?_
    exact jd_iret dX1_gateNow_123 rfl ⟨by subst e1; rfl, rfl⟩
  · refine jd_tabN (w := w) (j := 7) (off := 109) (tgt := 124) dX1_gateNow_15 e1 (by decide) (by decide) (by decide) rfl (by decide) ?_
    refine jd_aload_n dX1_gateNow_124 rfl ?_
    refine jd_getN in_X7 (((w_gate hw)) g (show g < nG κ by omega)) 7 q792 dX1_gateNow_125 rfl (Nat.le_of_ble_eq_true rfl) rfl ?_
    obtain ⟨mcq9, hqu9⟩ := w_queue hw g (show g < nG κ by omega)
    have hql9 := (hIg g (show g < nG κ by omega)).2.2.1
    refine jd_pF (n := 0) (As := []) (rest := []) (ct_J2_isEmpty hqu9 (by omega)) (jd_rv hqu9 15 rfl rfl) (ci := 15) rfl (List.mem_of_getElem? (i := 3) rfl) rfl q466 q469 q471 q83 q473 q468 q472 q470 q207 ⟨by decide, by decide, by decide +kernel⟩ dX1_gateNow_128 rfl rfl (Nat.le_of_ble_eq_true rfl) ⟨(Nat.le_of_ble_eq_true rfl), (Nat.le_of_ble_eq_true rfl)⟩ ?_
    refine jd_mg1 156 (.int ((if (gQue κ g).length = 0 then (-1) else nI (qAt κ g 0)))) (fun hj10 => ?_) ?_
    · refine jd_bif_eq (tgt := 140) dX1_gateNow_133 (by decide) (fun z11 => ?_) (fun z12 => ?_)
      · refine jd_aload_n dX1_gateNow_140 rfl ?_
        refine jd_getN in_X7 (((w_gate hw)) g (show g < nG κ by omega)) 7 q792 dX1_gateNow_141 rfl (Nat.le_of_ble_eq_true rfl) rfl ?_
        have hq2 := q_lt hI hg (j := 0) (by omega)
        refine jd_iconst (v := 0) dX1_gateNow_144 (by decide) ?_
        refine jd_pF (n := 1) (As := [.int (0)]) (rest := []) (ct_J2_get hqu9 (by omega) (k := 0) (show 0 < (gQue κ g).length by omega)) (jd_rv hqu9 15 rfl rfl) (ci := 15) rfl (List.mem_of_getElem? (i := 1) rfl) rfl q320 q323 q325 q83 q327 q322 q326 q324 q207 ⟨by decide, by decide, by decide +kernel⟩ dX1_gateNow_145 rfl rfl (Nat.le_of_ble_eq_true rfl) ⟨(Nat.le_of_ble_eq_true rfl), (Nat.le_of_ble_eq_true rfl)⟩ ?_
        refine jd_castS (jd_rv (((w_sleeper hw)) (qAt κ g 0) (show qAt κ g 0 < nS κ by omega)) 4 rfl rfl) (ci := 4) rfl q352 dX1_gateNow_150 ?_
        refine jd_getN in_X9 (((w_sleeper hw)) (qAt κ g 0) (show qAt κ g 0 < nS κ by omega)) 0 q849 dX1_gateNow_153 rfl (Nat.le_of_ble_eq_true rfl) rfl ?_
        exact jd_top (congrArg Value.int (by rw [if_neg z11])) hj10
      · refine jd_iconst (v := (-1)) dX1_gateNow_136 (by decide) ?_
        refine jd_goto (tgt := 156) dX1_gateNow_137 (by decide) ?_
        exact jd_top (congrArg Value.int (by rw [if_pos z12])) hj10
    · exact jd_iret dX1_gateNow_156 rfl ⟨by subst e1; rfl, rfl⟩
  · refine jd_tabN (w := w) (j := 8) (off := 142) (tgt := 157) dX1_gateNow_15 e1 (by decide) (by decide) (by decide) rfl (by decide) ?_
    refine jd_aload_n dX1_gateNow_157 rfl ?_
    refine jd_aload_n dX1_gateNow_158 rfl ?_
    refine jd_pV (As := [.ref (β 2 g)]) (rest := []) (ct_X1_hiddenWorth hw hI (g) (by omega)) (jd_rv ((w_this hw)) 0 rfl rfl) rfl q474 q476 qs18 q80 q477 nX1_hiddenWorth dX1_gateNow_159 rfl rfl rfl (Nat.le_of_ble_eq_true rfl) ⟨(Nat.le_of_ble_eq_true rfl), (Nat.le_of_ble_eq_true rfl)⟩ ?_
    exact jd_iret dX1_gateNow_162 rfl ⟨by subst e1; rfl, rfl⟩
  · refine jd_tabD (w := w) (j := 9) (tgt := 163) dX1_gateNow_15 e1 (by decide) (by decide) (by decide) ?_
    refine jd_aload_n dX1_gateNow_163 rfl ?_
    refine jd_pV (As := []) (rest := []) (ct_X7_many hw hI (g) (by omega)) (jd_rv (((w_gate hw)) g (show g < nG κ by omega)) 3 rfl rfl) rfl q485 q486 q487 q103 q488 nX7_many dX1_gateNow_164 rfl rfl rfl (Nat.le_of_ble_eq_true rfl) ⟨(Nat.le_of_ble_eq_true rfl), (Nat.le_of_ble_eq_true rfl)⟩ ?_
    exact jd_iret dX1_gateNow_167 rfl ⟨by subst e1; rfl, rfl⟩

set_option maxRecDepth 20000 in
set_option maxHeartbeats 2000000 in
theorem ct_X1_nightNow {G : jd_G} {β : ll_B} {κ : ll_K} {h : jd_H} (hw : WC G β κ h) (hI : ll_I κ) (w : Nat) (hw16 : w ≤ 16) : jd_Ct G mX1_nightNow 4 (0) (0) [.ref (β 0 0), .int (nI w)] h (jd_pu h (.int (nightVal κ w))) jd_no := by
  obtain ⟨⟨hG8, hS12, hP24, hH40, hN99, hH24⟩, hIg, hIs, hIp, hIh, hIl, hIq⟩ := id hI
  obtain ⟨mcL, hlL⟩ := w_lands hw
  obtain ⟨mcG, hlG⟩ := w_gates hw
  obtain ⟨mcS, hlS⟩ := w_sleepers hw
  obtain ⟨mcP, hlP⟩ := w_parts hw
  obtain ⟨mcH, hlH⟩ := w_hidings hw
  refine jd_ct (ls := [some (.ref (β 0 0)), some (.int (nI w))]) rfl rfl (by decide) (Nat.le_of_ble_eq_true rfl) rfl ?_
  refine jd_iload_n dX1_nightNow_0 rfl ?_
  rcases (by omega : w = 0 ∨ w = 1 ∨ w = 2 ∨ w = 3 ∨ w = 4 ∨ w = 5 ∨ w = 6 ∨ w = 7 ∨ w = 8 ∨ w = 9 ∨ w = 10 ∨ w = 11 ∨ w = 12 ∨ w = 13 ∨ w = 14 ∨ w = 15 ∨ w = 16) with e1 | e1 | e1 | e1 | e1 | e1 | e1 | e1 | e1 | e1 | e1 | e1 | e1 | e1 | e1 | e1 | e1
  · refine jd_tabN (w := w) (j := 0) (off := 83) (tgt := 84) dX1_nightNow_1 e1 (by decide) (by decide) (by decide) rfl (by decide) ?_
    refine jd_aload_n dX1_nightNow_84 rfl ?_
    refine jd_get in_X1 ((w_this hw)) 6 q289 dX1_nightNow_85 rfl (Nat.le_of_ble_eq_true rfl) rfl ?_
    exact jd_iret dX1_nightNow_88 rfl ⟨by subst e1; rfl, rfl⟩
  · refine jd_tabN (w := w) (j := 1) (off := 88) (tgt := 89) dX1_nightNow_1 e1 (by decide) (by decide) (by decide) rfl (by decide) ?_
    refine jd_aload_n dX1_nightNow_89 rfl ?_
    refine jd_get in_X1 ((w_this hw)) 7 q290 dX1_nightNow_90 rfl (Nat.le_of_ble_eq_true rfl) rfl ?_
    exact jd_iret dX1_nightNow_93 rfl ⟨by subst e1; rfl, rfl⟩
  · refine jd_tabN (w := w) (j := 2) (off := 93) (tgt := 94) dX1_nightNow_1 e1 (by decide) (by decide) (by decide) rfl (by decide) ?_
    refine jd_aload_n dX1_nightNow_94 rfl ?_
    refine jd_get in_X1 ((w_this hw)) 1 q284 dX1_nightNow_95 rfl (Nat.le_of_ble_eq_true rfl) rfl ?_
    refine jd_pF (n := 0) (As := []) (rest := []) (ct_J2_size hlG (show nG κ ≤ 900 by omega)) (jd_rv hlG 15 rfl rfl) (ci := 15) rfl (List.mem_of_getElem? (i := 2) rfl) rfl q339 q342 q344 q83 q346 q341 q345 q343 q207 ⟨by decide, by decide, by decide +kernel⟩ dX1_nightNow_98 rfl rfl (Nat.le_of_ble_eq_true rfl) ⟨(Nat.le_of_ble_eq_true rfl), (Nat.le_of_ble_eq_true rfl)⟩ ?_
    exact jd_iret dX1_nightNow_103 rfl ⟨by subst e1; rfl, rfl⟩
  · refine jd_tabN (w := w) (j := 3) (off := 103) (tgt := 104) dX1_nightNow_1 e1 (by decide) (by decide) (by decide) rfl (by decide) ?_
    refine jd_aload_n dX1_nightNow_104 rfl ?_
    refine jd_get in_X1 ((w_this hw)) 2 q285 dX1_nightNow_105 rfl (Nat.le_of_ble_eq_true rfl) rfl ?_
    refine jd_pF (n := 0) (As := []) (rest := []) (ct_J2_size hlS (show nS κ ≤ 900 by omega)) (jd_rv hlS 15 rfl rfl) (ci := 15) rfl (List.mem_of_getElem? (i := 2) rfl) rfl q339 q342 q344 q83 q346 q341 q345 q343 q207 ⟨by decide, by decide, by decide +kernel⟩ dX1_nightNow_108 rfl rfl (Nat.le_of_ble_eq_true rfl) ⟨(Nat.le_of_ble_eq_true rfl), (Nat.le_of_ble_eq_true rfl)⟩ ?_
    exact jd_iret dX1_nightNow_113 rfl ⟨by subst e1; rfl, rfl⟩
  · refine jd_tabN (w := w) (j := 4) (off := 113) (tgt := 114) dX1_nightNow_1 e1 (by decide) (by decide) (by decide) rfl (by decide) ?_
    refine jd_aload_n dX1_nightNow_114 rfl ?_
    refine jd_pV (As := []) (rest := []) (ct_X1_awake hw hI ) (jd_rv ((w_this hw)) 0 rfl rfl) rfl q398 q400 qs7 q80 q401 nX1_awake dX1_nightNow_115 rfl rfl rfl (Nat.le_of_ble_eq_true rfl) ⟨(Nat.le_of_ble_eq_true rfl), (Nat.le_of_ble_eq_true rfl)⟩ ?_
    exact jd_iret dX1_nightNow_118 rfl ⟨by subst e1; rfl, rfl⟩
  · refine jd_tabN (w := w) (j := 5) (off := 118) (tgt := 119) dX1_nightNow_1 e1 (by decide) (by decide) (by decide) rfl (by decide) ?_
    refine jd_aload_n dX1_nightNow_119 rfl ?_
    refine jd_get in_X1 ((w_this hw)) 3 q286 dX1_nightNow_120 rfl (Nat.le_of_ble_eq_true rfl) rfl ?_
    refine jd_pF (n := 0) (As := []) (rest := []) (ct_J2_size hlP (show nP κ ≤ 900 by omega)) (jd_rv hlP 15 rfl rfl) (ci := 15) rfl (List.mem_of_getElem? (i := 2) rfl) rfl q339 q342 q344 q83 q346 q341 q345 q343 q207 ⟨by decide, by decide, by decide +kernel⟩ dX1_nightNow_123 rfl rfl (Nat.le_of_ble_eq_true rfl) ⟨(Nat.le_of_ble_eq_true rfl), (Nat.le_of_ble_eq_true rfl)⟩ ?_
    exact jd_iret dX1_nightNow_128 rfl ⟨by subst e1; rfl, rfl⟩
  · refine jd_tabN (w := w) (j := 6) (off := 172) (tgt := 173) dX1_nightNow_1 e1 (by decide) (by decide) (by decide) rfl (by decide) ?_
    refine jd_aload_n dX1_nightNow_173 rfl ?_
    refine jd_iload_n dX1_nightNow_174 rfl ?_
    refine jd_iconst (v := 5) dX1_nightNow_175 (by decide) ?_
    refine jd_isubN (a := w) (b := 5) dX1_nightNow_176 (by omega) ?_
    refine jd_pV (As := [.int (nI ((w - 5)))]) (rest := []) (ct_X1_withFate hw hI ((w - 5)) (by omega)) (jd_rv ((w_this hw)) 0 rfl rfl) rfl q414 q416 qs10 q80 q417 nX1_withFate dX1_nightNow_177 rfl rfl rfl (Nat.le_of_ble_eq_true rfl) ⟨(Nat.le_of_ble_eq_true rfl), (Nat.le_of_ble_eq_true rfl)⟩ ?_
    exact jd_iret dX1_nightNow_180 rfl ⟨by subst e1; rfl, rfl⟩
  · refine jd_tabN (w := w) (j := 7) (off := 172) (tgt := 173) dX1_nightNow_1 e1 (by decide) (by decide) (by decide) rfl (by decide) ?_
    refine jd_aload_n dX1_nightNow_173 rfl ?_
    refine jd_iload_n dX1_nightNow_174 rfl ?_
    refine jd_iconst (v := 5) dX1_nightNow_175 (by decide) ?_
    refine jd_isubN (a := w) (b := 5) dX1_nightNow_176 (by omega) ?_
    refine jd_pV (As := [.int (nI ((w - 5)))]) (rest := []) (ct_X1_withFate hw hI ((w - 5)) (by omega)) (jd_rv ((w_this hw)) 0 rfl rfl) rfl q414 q416 qs10 q80 q417 nX1_withFate dX1_nightNow_177 rfl rfl rfl (Nat.le_of_ble_eq_true rfl) ⟨(Nat.le_of_ble_eq_true rfl), (Nat.le_of_ble_eq_true rfl)⟩ ?_
    exact jd_iret dX1_nightNow_180 rfl ⟨by subst e1; rfl, rfl⟩
  · refine jd_tabN (w := w) (j := 8) (off := 172) (tgt := 173) dX1_nightNow_1 e1 (by decide) (by decide) (by decide) rfl (by decide) ?_
    refine jd_aload_n dX1_nightNow_173 rfl ?_
    refine jd_iload_n dX1_nightNow_174 rfl ?_
    refine jd_iconst (v := 5) dX1_nightNow_175 (by decide) ?_
    refine jd_isubN (a := w) (b := 5) dX1_nightNow_176 (by omega) ?_
    refine jd_pV (As := [.int (nI ((w - 5)))]) (rest := []) (ct_X1_withFate hw hI ((w - 5)) (by omega)) (jd_rv ((w_this hw)) 0 rfl rfl) rfl q414 q416 qs10 q80 q417 nX1_withFate dX1_nightNow_177 rfl rfl rfl (Nat.le_of_ble_eq_true rfl) ⟨(Nat.le_of_ble_eq_true rfl), (Nat.le_of_ble_eq_true rfl)⟩ ?_
    exact jd_iret dX1_nightNow_180 rfl ⟨by subst e1; rfl, rfl⟩
  · refine jd_tabN (w := w) (j := 9) (off := 172) (tgt := 173) dX1_nightNow_1 e1 (by decide) (by decide) (by decide) rfl (by decide) ?_
    refine jd_aload_n dX1_nightNow_173 rfl ?_
    refine jd_iload_n dX1_nightNow_174 rfl ?_
    refine jd_iconst (v := 5) dX1_nightNow_175 (by decide) ?_
    refine jd_isubN (a := w) (b := 5) dX1_nightNow_176 (by omega) ?_
    refine jd_pV (As := [.int (nI ((w - 5)))]) (rest := []) (ct_X1_withFate hw hI ((w - 5)) (by omega)) (jd_rv ((w_this hw)) 0 rfl rfl) rfl q414 q416 qs10 q80 q417 nX1_withFate dX1_nightNow_177 rfl rfl rfl (Nat.le_of_ble_eq_true rfl) ⟨(Nat.le_of_ble_eq_true rfl), (Nat.le_of_ble_eq_true rfl)⟩ ?_
    exact jd_iret dX1_nightNow_180 rfl ⟨by subst e1; rfl, rfl⟩
  · refine jd_tabN (w := w) (j := 10) (off := 172) (tgt := 173) dX1_nightNow_1 e1 (by decide) (by decide) (by decide) rfl (by decide) ?_
    refine jd_aload_n dX1_nightNow_173 rfl ?_
    refine jd_iload_n dX1_nightNow_174 rfl ?_
    refine jd_iconst (v := 5) dX1_nightNow_175 (by decide) ?_
    refine jd_isubN (a := w) (b := 5) dX1_nightNow_176 (by omega) ?_
    refine jd_pV (As := [.int (nI ((w - 5)))]) (rest := []) (ct_X1_withFate hw hI ((w - 5)) (by omega)) (jd_rv ((w_this hw)) 0 rfl rfl) rfl q414 q416 qs10 q80 q417 nX1_withFate dX1_nightNow_177 rfl rfl rfl (Nat.le_of_ble_eq_true rfl) ⟨(Nat.le_of_ble_eq_true rfl), (Nat.le_of_ble_eq_true rfl)⟩ ?_
    exact jd_iret dX1_nightNow_180 rfl ⟨by subst e1; rfl, rfl⟩
  · refine jd_tabN (w := w) (j := 11) (off := 128) (tgt := 129) dX1_nightNow_1 e1 (by decide) (by decide) (by decide) rfl (by decide) ?_
    refine jd_aload_n dX1_nightNow_129 rfl ?_
    refine jd_pV (As := []) (rest := []) (ct_X1_gone hw hI ) (jd_rv ((w_this hw)) 0 rfl rfl) rfl q402 q404 qs8 q80 q405 nX1_gone dX1_nightNow_130 rfl rfl rfl (Nat.le_of_ble_eq_true rfl) ⟨(Nat.le_of_ble_eq_true rfl), (Nat.le_of_ble_eq_true rfl)⟩ ?_
    exact jd_iret dX1_nightNow_133 rfl ⟨by subst e1; rfl, rfl⟩
  · refine jd_tabN (w := w) (j := 12) (off := 133) (tgt := 134) dX1_nightNow_1 e1 (by decide) (by decide) (by decide) rfl (by decide) ?_
    refine jd_aload_n dX1_nightNow_134 rfl ?_
    refine jd_get in_X1 ((w_this hw)) 4 q287 dX1_nightNow_135 rfl (Nat.le_of_ble_eq_true rfl) rfl ?_
    refine jd_pF (n := 0) (As := []) (rest := []) (ct_J2_size hlH (show (hids κ).length ≤ 900 by omega)) (jd_rv hlH 15 rfl rfl) (ci := 15) rfl (List.mem_of_getElem? (i := 2) rfl) rfl q339 q342 q344 q83 q346 q341 q345 q343 q207 ⟨by decide, by decide, by decide +kernel⟩ dX1_nightNow_138 rfl rfl (Nat.le_of_ble_eq_true rfl) ⟨(Nat.le_of_ble_eq_true rfl), (Nat.le_of_ble_eq_true rfl)⟩ ?_
    exact jd_iret dX1_nightNow_143 rfl ⟨by subst e1; rfl, rfl⟩
  · refine jd_tabN (w := w) (j := 13) (off := 143) (tgt := 144) dX1_nightNow_1 e1 (by decide) (by decide) (by decide) rfl (by decide) ?_
    refine jd_aload_n dX1_nightNow_144 rfl ?_
    refine jd_get in_X1 ((w_this hw)) 5 q288 dX1_nightNow_145 rfl (Nat.le_of_ble_eq_true rfl) rfl ?_
    refine jd_getN in_X2 ((w_row hw)) 1 q169 dX1_nightNow_148 rfl (Nat.le_of_ble_eq_true rfl) rfl ?_
    exact jd_iret dX1_nightNow_151 rfl ⟨by subst e1; rfl, rfl⟩
  · refine jd_tabN (w := w) (j := 14) (off := 151) (tgt := 152) dX1_nightNow_1 e1 (by decide) (by decide) (by decide) rfl (by decide) ?_
    refine jd_aload_n dX1_nightNow_152 rfl ?_
    refine jd_get in_X1 ((w_this hw)) 8 q291 dX1_nightNow_153 rfl (Nat.le_of_ble_eq_true rfl) rfl ?_
    exact jd_iret dX1_nightNow_156 rfl ⟨by subst e1; rfl, rfl⟩
  · refine jd_tabN (w := w) (j := 15) (off := 156) (tgt := 157) dX1_nightNow_1 e1 (by decide) (by decide) (by decide) rfl (by decide) ?_
    refine jd_aload_n dX1_nightNow_157 rfl ?_
    refine jd_iload_n dX1_nightNow_158 rfl ?_
    refine jd_bipush (v := 16) dX1_nightNow_159 (by decide) ?_
    refine jd_mg2 169 (.int (jd_b ((w = 16)))) (fun hj2 => ?_) ?_
    · refine jd_ncmp_ne (a := w) (b := 16) (tgt := 168) dX1_nightNow_161 (by decide) (by omega) (by omega) (fun z3 => ?_) (fun z4 => ?_)
      · refine jd_iconst (v := 0) dX1_nightNow_168 (by decide) ?_
        exact jd_top (congrArg Value.int (jd_b0 z3).symm) hj2
      · refine jd_iconst (v := 1) dX1_nightNow_164 (by decide) ?_
        refine jd_goto (tgt := 169) dX1_nightNow_165 (by decide) ?_
        exact jd_top (congrArg Value.int (jd_b1 z4).symm) hj2
    · refine jd_pV (As := [.int (jd_b ((w = 16)))]) (rest := []) (ct_X1_ofAllLands hw hI ((w = 16))) (jd_rv ((w_this hw)) 0 rfl rfl) rfl q410 q412 qs9 q80 q413 nX1_ofAllLands dX1_nightNow_169 rfl rfl rfl (Nat.le_of_ble_eq_true rfl) ⟨(Nat.le_of_ble_eq_true rfl), (Nat.le_of_ble_eq_true rfl)⟩ ?_
      exact jd_iret dX1_nightNow_172 rfl ⟨by subst e1; rfl, rfl⟩
  · refine jd_tabN (w := w) (j := 16) (off := 156) (tgt := 157) dX1_nightNow_1 e1 (by decide) (by decide) (by decide) rfl (by decide) ?_
    refine jd_aload_n dX1_nightNow_157 rfl ?_
    refine jd_iload_n dX1_nightNow_158 rfl ?_
    refine jd_bipush (v := 16) dX1_nightNow_159 (by decide) ?_
    refine jd_mg2 169 (.int (jd_b ((w = 16)))) (fun hj5 => ?_) ?_
    · refine jd_ncmp_ne (a := w) (b := 16) (tgt := 168) dX1_nightNow_161 (by decide) (by omega) (by omega) (fun z6 => ?_) (fun z7 => ?_)
      · refine jd_iconst (v := 0) dX1_nightNow_168 (by decide) ?_
        exact jd_top (congrArg Value.int (jd_b0 z6).symm) hj5
      · refine jd_iconst (v := 1) dX1_nightNow_164 (by decide) ?_
        refine jd_goto (tgt := 169) dX1_nightNow_165 (by decide) ?_
        exact jd_top (congrArg Value.int (jd_b1 z7).symm) hj5
    · refine jd_pV (As := [.int (jd_b ((w = 16)))]) (rest := []) (ct_X1_ofAllLands hw hI ((w = 16))) (jd_rv ((w_this hw)) 0 rfl rfl) rfl q410 q412 qs9 q80 q413 nX1_ofAllLands dX1_nightNow_169 rfl rfl rfl (Nat.le_of_ble_eq_true rfl) ⟨(Nat.le_of_ble_eq_true rfl), (Nat.le_of_ble_eq_true rfl)⟩ ?_
      exact jd_iret dX1_nightNow_172 rfl ⟨by subst e1; rfl, rfl⟩

set_option maxRecDepth 20000 in
set_option maxHeartbeats 2000000 in
theorem ct_X1_partNow {G : jd_G} {β : ll_B} {κ : ll_K} {h : jd_H} (hw : WC G β κ h) (hI : ll_I κ) (p : Nat) (hp : p < nP κ) (w : Nat) (hw5 : w ≤ 5) : jd_Ct G mX1_partNow 4 (0) (0) [.ref (β 0 0), .int (nI p), .int (nI w)] h (jd_pu h (.int (partVal κ p w))) jd_no := by
  obtain ⟨⟨hG8, hS12, hP24, hH40, hN99, hH24⟩, hIg, hIs, hIp, hIh, hIl, hIq⟩ := id hI
  obtain ⟨mcL, hlL⟩ := w_lands hw
  obtain ⟨mcG, hlG⟩ := w_gates hw
  obtain ⟨mcS, hlS⟩ := w_sleepers hw
  obtain ⟨mcP, hlP⟩ := w_parts hw
  obtain ⟨mcH, hlH⟩ := w_hidings hw
  refine jd_ct (ls := [some (.ref (β 0 0)), some (.int (nI p)), some (.int (nI w)), none]) rfl rfl (by decide) (Nat.le_of_ble_eq_true rfl) rfl ?_
  refine jd_aload_n dX1_partNow_0 rfl ?_
  refine jd_get in_X1 ((w_this hw)) 3 q286 dX1_partNow_1 rfl (Nat.le_of_ble_eq_true rfl) rfl ?_
  refine jd_iload_n dX1_partNow_4 rfl ?_
  have hp1 := hIp p hp
  refine jd_pF (n := 1) (As := [.int (nI p)]) (rest := []) (ct_J2_get hlP (show nP κ ≤ 900 by omega) (k := p) (show p < nP κ by omega)) (jd_rv hlP 15 rfl rfl) (ci := 15) rfl (List.mem_of_getElem? (i := 1) rfl) rfl q320 q323 q325 q83 q327 q322 q326 q324 q207 ⟨by decide, by decide, by decide +kernel⟩ dX1_partNow_5 rfl rfl (Nat.le_of_ble_eq_true rfl) ⟨(Nat.le_of_ble_eq_true rfl), (Nat.le_of_ble_eq_true rfl)⟩ ?_
  refine jd_castS (jd_rv (((w_part hw)) p (show p < nP κ by omega)) 5 rfl rfl) (ci := 5) rfl q377 dX1_partNow_10 ?_
  refine jd_astore_n (ls' := [_, _, _, _]) dX1_partNow_13 (Nat.le_of_ble_eq_true rfl) rfl rfl ?_
  refine jd_iload_n dX1_partNow_14 rfl ?_
  rcases (by omega : w = 0 ∨ w = 1 ∨ w = 2 ∨ w = 3 ∨ w = 4 ∨ w = 5) with e1 | e1 | e1 | e1 | e1 | e1
  · refine jd_tabN (w := w) (j := 0) (off := 33) (tgt := 48) dX1_partNow_15 e1 (by decide) (by decide) (by decide) rfl (by decide) ?_
    refine jd_aload_n dX1_partNow_48 rfl ?_
    refine jd_getN in_X11 (((w_part hw)) p (show p < nP κ by omega)) 0 q902 dX1_partNow_49 rfl (Nat.le_of_ble_eq_true rfl) rfl ?_
    exact jd_iret dX1_partNow_52 rfl ⟨by subst e1; rfl, rfl⟩
  · refine jd_tabN (w := w) (j := 1) (off := 38) (tgt := 53) dX1_partNow_15 e1 (by decide) (by decide) (by decide) rfl (by decide) ?_
    refine jd_aload_n dX1_partNow_53 rfl ?_
    refine jd_getN in_X11 (((w_part hw)) p (show p < nP κ by omega)) 1 q904 dX1_partNow_54 rfl (Nat.le_of_ble_eq_true rfl) rfl ?_
    exact jd_iret dX1_partNow_57 rfl ⟨by subst e1; rfl, rfl⟩
  · refine jd_tabN (w := w) (j := 2) (off := 43) (tgt := 58) dX1_partNow_15 e1 (by decide) (by decide) (by decide) rfl (by decide) ?_
    refine jd_aload_n dX1_partNow_58 rfl ?_
    refine jd_getN in_X11 (((w_part hw)) p (show p < nP κ by omega)) 2 q906 dX1_partNow_59 rfl (Nat.le_of_ble_eq_true rfl) rfl ?_
    exact jd_iret dX1_partNow_62 rfl ⟨by subst e1; rfl, rfl⟩
  · refine jd_tabN (w := w) (j := 3) (off := 48) (tgt := 63) dX1_partNow_15 e1 (by decide) (by decide) (by decide) rfl (by decide) ?_
    refine jd_aload_n dX1_partNow_63 rfl ?_
    refine jd_getN in_X11 (((w_part hw)) p (show p < nP κ by omega)) 5 q912 dX1_partNow_64 rfl (Nat.le_of_ble_eq_true rfl) rfl ?_
    refine jd_pU (n := 0) (As := []) (rest := []) (ct_J16_ordinalF (k := pFate κ p) (by first | assumption | omega)) (jd_rvF (k := pFate κ p) (by first | assumption | omega)) rfl q418 q419 q421 q422 q106 q423 ⟨by decide, by decide, by decide +kernel⟩ rfl dX1_partNow_67 rfl rfl (Nat.le_of_ble_eq_true rfl) ⟨(Nat.le_of_ble_eq_true rfl), (Nat.le_of_ble_eq_true rfl)⟩ ?_
    exact jd_iret dX1_partNow_70 rfl ⟨by subst e1; rfl, rfl⟩
  · refine jd_tabN (w := w) (j := 4) (off := 56) (tgt := 71) dX1_partNow_15 e1 (by decide) (by decide) (by decide) rfl (by decide) ?_
    refine jd_aload_n dX1_partNow_71 rfl ?_
    refine jd_aload_n dX1_partNow_72 rfl ?_
    refine jd_pV (As := [.ref (β 8 p)]) (rest := []) (ct_X1_landOf hw hI (p) (by omega)) (jd_rv ((w_this hw)) 0 rfl rfl) rfl q445 q447 qs15 q80 q448 nX1_landOf dX1_partNow_73 rfl rfl rfl (Nat.le_of_ble_eq_true rfl) ⟨(Nat.le_of_ble_eq_true rfl), (Nat.le_of_ble_eq_true rfl)⟩ ?_
    exact jd_iret dX1_partNow_76 rfl ⟨by subst e1; rfl, rfl⟩
  · refine jd_tabD (w := w) (j := 5) (tgt := 77) dX1_partNow_15 e1 (by decide) (by decide) (by decide) ?_
    refine jd_aload_n dX1_partNow_77 rfl ?_
    refine jd_getN in_X11 (((w_part hw)) p (show p < nP κ by omega)) 3 q908 dX1_partNow_78 rfl (Nat.le_of_ble_eq_true rfl) rfl ?_
    exact jd_iret dX1_partNow_81 rfl ⟨by subst e1; rfl, rfl⟩
