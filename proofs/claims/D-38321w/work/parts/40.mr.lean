/-! the model, reading (printed by mk_c.py) -/
set_option maxRecDepth 20000 in
set_option maxHeartbeats 2000000 in
theorem ct_X4_head {G : jd_G} {γ : ll_B} {κ : ll_K} {μ : ll_U} {h : jd_H} (hw : WM G γ κ μ h) (hI : ll_I κ) (s : Nat) (hs : s < nS κ) : jd_Ct G mX4_head 3 (0) (0) [.ref (γ 0 0), .int (nI s)] h (jd_pu h (.int (headOf κ s))) jd_no := by
  obtain ⟨⟨hG8, hS12, hP24, hH40, hN99, hH24⟩, hIg, hIs, hIp, hIh, hIl, hIq⟩ := id hI
  obtain ⟨mcG, hlG⟩ := w_mgates hw
  obtain ⟨mcS, hlS⟩ := w_msleepers hw
  obtain ⟨mcP, hlP⟩ := w_mparts hw
  obtain ⟨mcH, hlH⟩ := w_mhidings hw
  refine jd_ct (ls := [some (.ref (γ 0 0)), some (.int (nI s)), none, none]) rfl rfl (by decide) (Nat.le_of_ble_eq_true rfl) rfl ?_
  refine jd_iconst (v := 0) dX4_head_0 (by decide) ?_
  refine jd_istore_n (ls' := [_, _, _, _]) dX4_head_1 (Nat.le_of_ble_eq_true rfl) rfl rfl ?_
  refine jd_iconst (v := 0) dX4_head_2 (by decide) ?_
  refine jd_istore_n (ls' := [_, _, _, _]) dX4_head_3 (Nat.le_of_ble_eq_true rfl) rfl rfl ?_
  have lp4_1 : ∀ (j : Nat) (k : Nat) (hk0 : k + j = nP κ), jd_W G mX4_head 3 (0) (0) 4 [some (.ref (γ 0 0)), some (.int (nI s)), some (.int ((ll_set (fun p => pAt κ p = s) k))), some (.int (nI k))] [] h (jd_pu h (.int (headOf κ s))) jd_no := by
    intro j
    induction j with
    | zero =>
      intro k hk0
      obtain rfl : k = nP κ := by omega
      refine jd_iload_n dX4_head_4 rfl ?_
      refine jd_aload_n dX4_head_5 rfl ?_
      refine jd_get in_X4 (w_mthis hw) 9 q1475 dX4_head_6 rfl (Nat.le_of_ble_eq_true rfl) rfl ?_
      refine jd_pV (As := []) (rest := [.int (nI (nP κ))]) (ct_J2_size hlP (show nP κ ≤ 900 by omega)) (jd_rv hlP 15 rfl rfl) rfl q1533 q344 q1999 q83 q346 nJ2_size dX4_head_9 rfl rfl rfl (Nat.le_of_ble_eq_true rfl) ⟨(Nat.le_of_ble_eq_true rfl), (Nat.le_of_ble_eq_true rfl)⟩ ?_
      refine jd_ncmp_ge (a := nP κ) (b := nP κ) (tgt := 49) dX4_head_12 (by decide) (by omega) (by omega) (fun z2 => ?_) (fun z3 => ?_)
      · refine jd_iload_n dX4_head_49 rfl ?_
        exact jd_iret dX4_head_50 rfl ⟨congrArg (fun x => some (Value.int x)) (headM hI (by omega)), rfl⟩
      · omega
    | succ j ih4 =>
      intro k hk0
      have hat := at_bd hI (p := k) (by omega)
      refine jd_iload_n dX4_head_4 rfl ?_
      refine jd_aload_n dX4_head_5 rfl ?_
      refine jd_get in_X4 (w_mthis hw) 9 q1475 dX4_head_6 rfl (Nat.le_of_ble_eq_true rfl) rfl ?_
      refine jd_pV (As := []) (rest := [.int (nI k)]) (ct_J2_size hlP (show nP κ ≤ 900 by omega)) (jd_rv hlP 15 rfl rfl) rfl q1533 q344 q1999 q83 q346 nJ2_size dX4_head_9 rfl rfl rfl (Nat.le_of_ble_eq_true rfl) ⟨(Nat.le_of_ble_eq_true rfl), (Nat.le_of_ble_eq_true rfl)⟩ ?_
      refine jd_ncmp_ge (a := k) (b := nP κ) (tgt := 49) dX4_head_12 (by decide) (by omega) (by omega) (fun z4 => ?_) (fun z5 => ?_)
      · omega
      · refine jd_iload_n dX4_head_15 rfl ?_
        refine jd_aload_n dX4_head_16 rfl ?_
        refine jd_get in_X4 (w_mthis hw) 9 q1475 dX4_head_17 rfl (Nat.le_of_ble_eq_true rfl) rfl ?_
        refine jd_iload_n dX4_head_20 rfl ?_
        refine jd_pV (As := [.int (nI k)]) (rest := [.int ((ll_set (fun p => pAt κ p = s) k))]) (ct_J2_get hlP (show nP κ ≤ 900 by omega) (k := k) (show k < nP κ by omega)) (jd_rv hlP 15 rfl rfl) rfl q1584 q325 q2001 q83 q327 nJ2_get dX4_head_21 rfl rfl rfl (Nat.le_of_ble_eq_true rfl) ⟨(Nat.le_of_ble_eq_true rfl), (Nat.le_of_ble_eq_true rfl)⟩ ?_
        refine jd_castS (jd_rv ((w_mpart hw) k (show k < nP κ by omega)) 13 rfl rfl) (ci := 13) rfl q1638 dX4_head_24 ?_
        refine jd_getN in_X12 ((w_mpart hw) k (show k < nP κ by omega)) 4 q1649 dX4_head_27 rfl (Nat.le_of_ble_eq_true rfl) rfl ?_
        refine jd_iload_n dX4_head_30 rfl ?_
        refine jd_mg2 41 (.int ((if (pAt κ k) = s then (1 <<< (nI k &&& 31)) else 0))) (fun hj6 => ?_) ?_
        · refine jd_ncmp_ne (a := (pAt κ k)) (b := s) (tgt := 40) dX4_head_31 (by decide) (by omega) (by omega) (fun z7 => ?_) (fun z8 => ?_)
          · refine jd_iconst (v := 0) dX4_head_40 (by decide) ?_
            exact jd_top (congrArg Value.int (by rw [if_neg z7])) hj6
          · refine jd_iconst (v := 1) dX4_head_34 (by decide) ?_
            refine jd_iload_n dX4_head_35 rfl ?_
            refine jd_ishl dX4_head_36 ?_
            refine jd_goto (tgt := 41) dX4_head_37 (by decide) ?_
            exact jd_top (congrArg Value.int (by rw [if_pos z8])) hj6
        · refine jd_ior dX4_head_41 ?_
          refine jd_istore_n (ls' := [_, _, _, _]) dX4_head_42 (Nat.le_of_ble_eq_true rfl) rfl rfl ?_
          refine jd_iincN (n := 1) (ls' := [_, _, _, _]) dX4_head_43 rfl (Nat.le_of_ble_eq_true rfl) rfl rfl ?_
          refine jd_goto (tgt := 4) dX4_head_46 (by decide) ?_
          refine jd_lsub [some (.ref (γ 0 0)), some (.int (nI s)), some (.int ((ll_set (fun p => pAt κ p = s) (k + 1)))), some (.int (nI (k + 1)))] ⟨rfl, rfl, rfl, rfl, trivial⟩ ?_
          exact ih4 (k + 1) (by omega)
  refine jd_lsub [some (.ref (γ 0 0)), some (.int (nI s)), some (.int ((ll_set (fun p => pAt κ p = s) 0))), some (.int (nI 0))] ⟨rfl, rfl, rfl, rfl, trivial⟩ ?_
  exact lp4_1 (nP κ) 0 (by omega)

set_option maxRecDepth 20000 in
set_option maxHeartbeats 2000000 in
theorem ct_X4_landOf {G : jd_G} {γ : ll_B} {κ : ll_K} {μ : ll_U} {h : jd_H} (hw : WM G γ κ μ h) (hI : ll_I κ) (p : Nat) (hp : p < nP κ) : jd_Ct G mX4_landOf 3 (0) (0) [.ref (γ 0 0), .ref (γ 6 p)] h (jd_pu h (.int (oI (ll_land κ p)))) jd_no := by
  obtain ⟨⟨hG8, hS12, hP24, hH40, hN99, hH24⟩, hIg, hIs, hIp, hIh, hIl, hIq⟩ := id hI
  obtain ⟨mcG, hlG⟩ := w_mgates hw
  obtain ⟨mcS, hlS⟩ := w_msleepers hw
  obtain ⟨mcP, hlP⟩ := w_mparts hw
  obtain ⟨mcH, hlH⟩ := w_mhidings hw
  refine jd_ct (ls := [some (.ref (γ 0 0)), some (.ref (γ 6 p))]) rfl rfl (by decide) (Nat.le_of_ble_eq_true rfl) rfl ?_
  have hat := at_bd hI hp
  have hlm := landM hI hp
  refine jd_aload_n dX4_landOf_0 rfl ?_
  refine jd_getN in_X12 ((w_mpart hw) p (show p < nP κ by omega)) 4 q1649 dX4_landOf_1 rfl (Nat.le_of_ble_eq_true rfl) rfl ?_
  refine jd_sipush (v := 999) dX4_landOf_4 (by decide) ?_
  refine jd_ncmp_ne (a := (pAt κ p)) (b := 999) (tgt := 14) dX4_landOf_7 (by decide) (by omega) (by omega) (fun z1 => ?_) (fun z2 => ?_)
  · refine jd_aload_n dX4_landOf_14 rfl ?_
    refine jd_getN in_X12 ((w_mpart hw) p (show p < nP κ by omega)) 4 q1649 dX4_landOf_15 rfl (Nat.le_of_ble_eq_true rfl) rfl ?_
    refine jd_bipush (v := 100) dX4_landOf_18 (by decide) ?_
    refine jd_ncmp_lt (a := (pAt κ p)) (b := 100) (tgt := 33) dX4_landOf_20 (by decide) (by omega) (by omega) (fun z3 => ?_) (fun z4 => ?_)
    · have hl3 := hlm.2.2 (by omega)
      refine jd_aload_n dX4_landOf_33 rfl ?_
      refine jd_get in_X4 (w_mthis hw) 8 q1474 dX4_landOf_34 rfl (Nat.le_of_ble_eq_true rfl) rfl ?_
      refine jd_aload_n dX4_landOf_37 rfl ?_
      refine jd_getN in_X12 ((w_mpart hw) p (show p < nP κ by omega)) 4 q1649 dX4_landOf_38 rfl (Nat.le_of_ble_eq_true rfl) rfl ?_
      refine jd_pV (As := [.int (nI ((pAt κ p)))]) (rest := []) (ct_J2_get hlS (show nS κ ≤ 900 by omega) (k := (pAt κ p)) (show (pAt κ p) < nS κ by omega)) (jd_rv hlS 15 rfl rfl) rfl q1584 q325 q2001 q83 q327 nJ2_get dX4_landOf_41 rfl rfl rfl (Nat.le_of_ble_eq_true rfl) ⟨(Nat.le_of_ble_eq_true rfl), (Nat.le_of_ble_eq_true rfl)⟩ ?_
      refine jd_castS (jd_rv ((w_msleeper hw) (pAt κ p) (show pAt κ p < nS κ by omega)) 12 rfl rfl) (ci := 12) rfl q1593 dX4_landOf_44 ?_
      refine jd_getN in_X10 ((w_msleeper hw) (pAt κ p) (show pAt κ p < nS κ by omega)) 0 q1599 dX4_landOf_47 rfl (Nat.le_of_ble_eq_true rfl) rfl ?_
      exact jd_iret dX4_landOf_50 rfl ⟨congrArg (fun x => some (Value.int x)) (by rw [hl3.1]; rfl), rfl⟩
    · refine jd_aload_n dX4_landOf_23 rfl ?_
      refine jd_getN in_X12 ((w_mpart hw) p (show p < nP κ by omega)) 4 q1649 dX4_landOf_24 rfl (Nat.le_of_ble_eq_true rfl) rfl ?_
      refine jd_bipush (v := 100) dX4_landOf_27 (by decide) ?_
      refine jd_isubN (a := (pAt κ p)) (b := 100) dX4_landOf_29 (by omega) ?_
      refine jd_goto (tgt := 50) dX4_landOf_30 (by decide) ?_
      exact jd_iret dX4_landOf_50 rfl ⟨congrArg (fun x => some (Value.int x)) (by rcases at_cases hI hp with ⟨j, a1, a2, a3, a4⟩ | ⟨l, a1, a2, a3, a4⟩ | ⟨a1, a2, a3⟩; omega; rw [hlm.2.1 l a4 a3, a4, Nat.add_sub_cancel_left]; rfl; omega), rfl⟩
  · refine jd_iconst (v := (-1)) dX4_landOf_10 (by decide) ?_
    refine jd_goto (tgt := 50) dX4_landOf_11 (by decide) ?_
    exact jd_iret dX4_landOf_50 rfl ⟨congrArg (fun x => some (Value.int x)) (by rw [hlm.1 z2]; rfl), rfl⟩

set_option maxRecDepth 20000 in
set_option maxHeartbeats 2000000 in
theorem ct_X4_wholes {G : jd_G} {γ : ll_B} {κ : ll_K} {μ : ll_U} {h : jd_H} (hw : WM G γ κ μ h) (hI : ll_I κ) (l : Nat) (hl : l < 6) : jd_Ct G mX4_wholes 4 (0) (0) [.ref (γ 0 0), .int (nI l)] h (jd_pu h (.int (whole κ l))) jd_no := by
  obtain ⟨⟨hG8, hS12, hP24, hH40, hN99, hH24⟩, hIg, hIs, hIp, hIh, hIl, hIq⟩ := id hI
  obtain ⟨mcG, hlG⟩ := w_mgates hw
  obtain ⟨mcS, hlS⟩ := w_msleepers hw
  obtain ⟨mcP, hlP⟩ := w_mparts hw
  obtain ⟨mcH, hlH⟩ := w_mhidings hw
  refine jd_ct (ls := [some (.ref (γ 0 0)), some (.int (nI l)), none, none, none, none, none]) rfl rfl (by decide) (Nat.le_of_ble_eq_true rfl) rfl ?_
  refine jd_iconst (v := 0) dX4_wholes_0 (by decide) ?_
  refine jd_istore_n (ls' := [_, _, _, _, _, _, _]) dX4_wholes_1 (Nat.le_of_ble_eq_true rfl) rfl rfl ?_
  refine jd_iconst (v := 0) dX4_wholes_2 (by decide) ?_
  refine jd_istore_n (ls' := [_, _, _, _, _, _, _]) dX4_wholes_3 (Nat.le_of_ble_eq_true rfl) rfl rfl ?_
  have lp4_1 : ∀ (j : Nat) (e : Nat) (he0 : e + j = 8), jd_W G mX4_wholes 4 (0) (0) 4 [some (.ref (γ 0 0)), some (.int (nI l)), some (.int ((ll_set (fun p => 0 < wholeAll κ p ∧ wholeAll κ p = wholeHere κ l p) e))), some (.int (nI e)), none, none, none] [] h (jd_pu h (.int (whole κ l))) jd_no := by
    intro j
    induction j with
    | zero =>
      intro e he0
      obtain rfl : e = 8 := by omega
      refine jd_iload_n dX4_wholes_4 rfl ?_
      refine jd_bipush (v := 8) dX4_wholes_5 (by decide) ?_
      refine jd_ncmp_ge (a := 8) (b := 8) (tgt := 118) dX4_wholes_7 (by decide) (by omega) (by omega) (fun z2 => ?_) (fun z3 => ?_)
      · refine jd_iload_n dX4_wholes_118 rfl ?_
        exact jd_iret dX4_wholes_119 rfl ⟨rfl, rfl⟩
      · omega
    | succ j ih4 =>
      intro e he0
      refine jd_iload_n dX4_wholes_4 rfl ?_
      refine jd_bipush (v := 8) dX4_wholes_5 (by decide) ?_
      refine jd_ncmp_ge (a := e) (b := 8) (tgt := 118) dX4_wholes_7 (by decide) (by omega) (by omega) (fun z4 => ?_) (fun z5 => ?_)
      · omega
      · refine jd_iconst (v := 0) dX4_wholes_10 (by decide) ?_
        refine jd_istore (ls' := [_, _, _, _, _, _, _]) dX4_wholes_11 (Nat.le_of_ble_eq_true rfl) rfl rfl ?_
        refine jd_iconst (v := 1) dX4_wholes_13 (by decide) ?_
        refine jd_istore (ls' := [_, _, _, _, _, _, _]) dX4_wholes_14 (Nat.le_of_ble_eq_true rfl) rfl rfl ?_
        refine jd_iconst (v := 0) dX4_wholes_16 (by decide) ?_
        refine jd_istore (ls' := [_, _, _, _, _, _, _]) dX4_wholes_17 (Nat.le_of_ble_eq_true rfl) rfl rfl ?_
        have lp19_6 : ∀ (j : Nat) (k : Nat) (hk0 : k + j = nP κ), jd_W G mX4_wholes 4 (0) (0) 19 [some (.ref (γ 0 0)), some (.int (nI l)), some (.int ((ll_set (fun p => 0 < wholeAll κ p ∧ wholeAll κ p = wholeHere κ l p) e))), some (.int (nI e)), some (.int ((ll_cnt (fun p => pDream κ p = e) k))), some (.int (jd_b (wIs κ l e k = true))), some (.int (nI k))] [] h (jd_pu h (.int (whole κ l))) jd_no := by
          intro j
          induction j with
          | zero =>
            intro k hk0
            obtain rfl : k = nP κ := by omega
            refine jd_iload dX4_wholes_19 rfl ?_
            refine jd_aload_n dX4_wholes_21 rfl ?_
            refine jd_get in_X4 (w_mthis hw) 9 q1475 dX4_wholes_22 rfl (Nat.le_of_ble_eq_true rfl) rfl ?_
            refine jd_pV (As := []) (rest := [.int (nI (nP κ))]) (ct_J2_size hlP (show nP κ ≤ 900 by omega)) (jd_rv hlP 15 rfl rfl) rfl q1533 q344 q1999 q83 q346 nJ2_size dX4_wholes_25 rfl rfl rfl (Nat.le_of_ble_eq_true rfl) ⟨(Nat.le_of_ble_eq_true rfl), (Nat.le_of_ble_eq_true rfl)⟩ ?_
            refine jd_ncmp_ge (a := nP κ) (b := nP κ) (tgt := 92) dX4_wholes_28 (by decide) (by omega) (by omega) (fun z7 => ?_) (fun z8 => ?_)
            · refine jd_iload_n dX4_wholes_92 rfl ?_
              refine jd_iload dX4_wholes_93 rfl ?_
              refine jd_mg1 110 (.int ((if wIs κ l e (nP κ) = true then if (ll_cnt (fun p => pDream κ p = e) (nP κ)) ≤ 0 then 0 else (1 <<< (nI e &&& 31)) else 0))) (fun hj9 => ?_) ?_
              · refine jd_bif_eq (tgt := 109) dX4_wholes_95 (by decide) (fun z10 => ?_) (fun z11 => ?_)
                · refine jd_iconst (v := 0) dX4_wholes_109 (by decide) ?_
                  exact jd_top (congrArg Value.int (by rw [if_neg z10])) hj9
                · refine jd_iload dX4_wholes_98 rfl ?_
                  refine jd_if_le (tgt := 109) dX4_wholes_100 (by decide) (fun z12 => ?_) (fun z13 => ?_)
                  · refine jd_iconst (v := 0) dX4_wholes_109 (by decide) ?_
                    exact jd_top (congrArg Value.int (by rw [if_pos z11, if_pos z12])) hj9
                  · refine jd_iconst (v := 1) dX4_wholes_103 (by decide) ?_
                    refine jd_iload_n dX4_wholes_104 rfl ?_
                    refine jd_ishl dX4_wholes_105 ?_
                    refine jd_goto (tgt := 110) dX4_wholes_106 (by decide) ?_
                    exact jd_top (congrArg Value.int (by rw [if_pos z11, if_neg z13])) hj9
              · refine jd_ior dX4_wholes_110 ?_
                refine jd_istore_n (ls' := [_, _, _, _, _, _, _]) dX4_wholes_111 (Nat.le_of_ble_eq_true rfl) rfl rfl ?_
                refine jd_iincN (n := 1) (ls' := [_, _, _, _, _, _, _]) dX4_wholes_112 rfl (Nat.le_of_ble_eq_true rfl) rfl rfl ?_
                refine jd_goto (tgt := 4) dX4_wholes_115 (by decide) ?_
                refine jd_lsub [some (.ref (γ 0 0)), some (.int (nI l)), some (.int ((ll_set (fun p => 0 < wholeAll κ p ∧ wholeAll κ p = wholeHere κ l p) (e + 1)))), some (.int (nI (e + 1))), none, none, none] ⟨rfl, rfl, (congrArg (fun x => some (Value.int (_ ||| x))) (wholeM_if hP24)), rfl, trivial⟩ ?_
                exact ih4 (e + 1) (by omega)
            · omega
          | succ j ih19 =>
            intro k hk0
            have hp1 := fun (w : k < nP κ) => hIp k w
            refine jd_iload dX4_wholes_19 rfl ?_
            refine jd_aload_n dX4_wholes_21 rfl ?_
            refine jd_get in_X4 (w_mthis hw) 9 q1475 dX4_wholes_22 rfl (Nat.le_of_ble_eq_true rfl) rfl ?_
            refine jd_pV (As := []) (rest := [.int (nI k)]) (ct_J2_size hlP (show nP κ ≤ 900 by omega)) (jd_rv hlP 15 rfl rfl) rfl q1533 q344 q1999 q83 q346 nJ2_size dX4_wholes_25 rfl rfl rfl (Nat.le_of_ble_eq_true rfl) ⟨(Nat.le_of_ble_eq_true rfl), (Nat.le_of_ble_eq_true rfl)⟩ ?_
            refine jd_ncmp_ge (a := k) (b := nP κ) (tgt := 92) dX4_wholes_28 (by decide) (by omega) (by omega) (fun z14 => ?_) (fun z15 => ?_)
            · omega
            · refine jd_aload_n dX4_wholes_31 rfl ?_
              refine jd_get in_X4 (w_mthis hw) 9 q1475 dX4_wholes_32 rfl (Nat.le_of_ble_eq_true rfl) rfl ?_
              refine jd_iload dX4_wholes_35 rfl ?_
              refine jd_pV (As := [.int (nI k)]) (rest := []) (ct_J2_get hlP (show nP κ ≤ 900 by omega) (k := k) (show k < nP κ by omega)) (jd_rv hlP 15 rfl rfl) rfl q1584 q325 q2001 q83 q327 nJ2_get dX4_wholes_37 rfl rfl rfl (Nat.le_of_ble_eq_true rfl) ⟨(Nat.le_of_ble_eq_true rfl), (Nat.le_of_ble_eq_true rfl)⟩ ?_
              refine jd_castS (jd_rv ((w_mpart hw) k (show k < nP κ by omega)) 13 rfl rfl) (ci := 13) rfl q1638 dX4_wholes_40 ?_
              refine jd_getN in_X12 ((w_mpart hw) k (show k < nP κ by omega)) 0 q1644 dX4_wholes_43 rfl (Nat.le_of_ble_eq_true rfl) rfl ?_
              refine jd_iload_n dX4_wholes_46 rfl ?_
              refine jd_ncmp_eq (a := (pDream κ k)) (b := e) (tgt := 53) dX4_wholes_47 (by decide) (by omega) (by omega) (fun z16 => ?_) (fun z17 => ?_)
              · refine jd_iinc (v := ((ll_cnt (fun p => pDream κ p = e) k) + 1)) (ls' := [_, _, _, _, _, _, _]) dX4_wholes_53 rfl (by first | rfl | decide) (Nat.le_of_ble_eq_true rfl) rfl rfl ?_
                refine jd_iload dX4_wholes_56 rfl ?_
                refine jd_aload_n dX4_wholes_58 rfl ?_
                refine jd_aload_n dX4_wholes_59 rfl ?_
                refine jd_get in_X4 (w_mthis hw) 9 q1475 dX4_wholes_60 rfl (Nat.le_of_ble_eq_true rfl) rfl ?_
                refine jd_iload dX4_wholes_63 rfl ?_
                refine jd_pV (As := [.int (nI k)]) (rest := [.ref (γ 0 0), .int (jd_b (wIs κ l e k = true))]) (ct_J2_get hlP (show nP κ ≤ 900 by omega) (k := k) (show k < nP κ by omega)) (jd_rv hlP 15 rfl rfl) rfl q1584 q325 q2001 q83 q327 nJ2_get dX4_wholes_65 rfl rfl rfl (Nat.le_of_ble_eq_true rfl) ⟨(Nat.le_of_ble_eq_true rfl), (Nat.le_of_ble_eq_true rfl)⟩ ?_
                refine jd_castS (jd_rv ((w_mpart hw) k (show k < nP κ by omega)) 13 rfl rfl) (ci := 13) rfl q1638 dX4_wholes_68 ?_
                refine jd_pV (As := [.ref (γ 6 k)]) (rest := [.int (jd_b (wIs κ l e k = true))]) (ct_X4_landOf hw hI (k) (by omega)) (jd_rv (w_mthis hw) 9 rfl rfl) rfl q1872 q1874 qs66 q90 q1875 nX4_landOf dX4_wholes_71 rfl rfl rfl (Nat.le_of_ble_eq_true rfl) ⟨(Nat.le_of_ble_eq_true rfl), (Nat.le_of_ble_eq_true rfl)⟩ ?_
                refine jd_iload_n dX4_wholes_74 rfl ?_
                refine jd_mg2 83 (.int (jd_b ((ll_land κ k = some l)))) (fun hj18 => ?_) ?_
                · refine jd_ocmp_ne (tgt := 82) dX4_wholes_75 (by decide) (fun j hj => by have := ll_land_lt hI (p := k) (by omega) hj; omega) (by omega) (fun z19 => ?_) (fun z20 => ?_)
                  · refine jd_iconst (v := 0) dX4_wholes_82 (by decide) ?_
                    exact jd_top (congrArg Value.int (jd_b0 z19).symm) hj18
                  · refine jd_iconst (v := 1) dX4_wholes_78 (by decide) ?_
                    refine jd_goto (tgt := 83) dX4_wholes_79 (by decide) ?_
                    exact jd_top (congrArg Value.int (jd_b1 z20).symm) hj18
                · refine jd_iand dX4_wholes_83 ?_
                  refine jd_top (congrArg Value.int (jd_band _ _)) ?_
                  refine jd_istore (ls' := [_, _, _, _, _, _, _]) dX4_wholes_84 (Nat.le_of_ble_eq_true rfl) rfl rfl ?_
                  refine jd_iincN (n := 1) (ls' := [_, _, _, _, _, _, _]) dX4_wholes_86 rfl (Nat.le_of_ble_eq_true rfl) rfl rfl ?_
                  refine jd_goto (tgt := 19) dX4_wholes_89 (by decide) ?_
                  refine jd_lsub [some (.ref (γ 0 0)), some (.int (nI l)), some (.int ((ll_set (fun p => 0 < wholeAll κ p ∧ wholeAll κ p = wholeHere κ l p) e))), some (.int (nI e)), some (.int ((ll_cnt (fun p => pDream κ p = e) (k + 1)))), some (.int (jd_b (wIs κ l e (k + 1) = true))), some (.int (nI (k + 1)))] ⟨rfl, rfl, rfl, rfl, (congrArg (fun x => some (Value.int x)) (cnt_y (P := fun p => pDream κ p = e) z16)), (congrArg (fun x => some (Value.int x)) (jd_bcong (wIs_y z16))), rfl, trivial⟩ ?_
                  exact ih19 (k + 1) (by omega)
              · refine jd_goto (tgt := 86) dX4_wholes_50 (by decide) ?_
                refine jd_iincN (n := 1) (ls' := [_, _, _, _, _, _, _]) dX4_wholes_86 rfl (Nat.le_of_ble_eq_true rfl) rfl rfl ?_
                refine jd_goto (tgt := 19) dX4_wholes_89 (by decide) ?_
                refine jd_lsub [some (.ref (γ 0 0)), some (.int (nI l)), some (.int ((ll_set (fun p => 0 < wholeAll κ p ∧ wholeAll κ p = wholeHere κ l p) e))), some (.int (nI e)), some (.int ((ll_cnt (fun p => pDream κ p = e) (k + 1)))), some (.int (jd_b (wIs κ l e (k + 1) = true))), some (.int (nI (k + 1)))] ⟨rfl, rfl, rfl, rfl, (congrArg (fun x => some (Value.int x)) (cnt_n (P := fun p => pDream κ p = e) z17)), (congrArg (fun x => some (Value.int x)) (jd_bcong (wIs_n z17))), rfl, trivial⟩ ?_
                exact ih19 (k + 1) (by omega)
        refine jd_lsub [some (.ref (γ 0 0)), some (.int (nI l)), some (.int ((ll_set (fun p => 0 < wholeAll κ p ∧ wholeAll κ p = wholeHere κ l p) e))), some (.int (nI e)), some (.int ((ll_cnt (fun p => pDream κ p = e) 0))), some (.int (jd_b (wIs κ l e 0 = true))), some (.int (nI 0))] ⟨rfl, rfl, rfl, rfl, rfl, rfl, rfl, trivial⟩ ?_
        exact lp19_6 (nP κ) 0 (by omega)
  refine jd_lsub [some (.ref (γ 0 0)), some (.int (nI l)), some (.int ((ll_set (fun p => 0 < wholeAll κ p ∧ wholeAll κ p = wholeHere κ l p) 0))), some (.int (nI 0)), none, none, none] ⟨rfl, rfl, rfl, rfl, trivial⟩ ?_
  exact lp4_1 (8) 0 (by omega)

set_option maxRecDepth 20000 in
set_option maxHeartbeats 2000000 in
theorem ct_X8_place {G : jd_G} {γ : ll_B} {κ : ll_K} {μ : ll_U} {h : jd_H} (hw : WM G γ κ μ h) (hI : ll_I κ) (g s : Nat) (hg : g < nG κ) (hs : s < 2 ^ 31) : jd_Ct G mX8_place 3 (0) (0) [.ref (γ 2 g), .int (nI s)] h (jd_pu h (.int (oI (placeOf κ g s)))) jd_no := by
  obtain ⟨⟨hG8, hS12, hP24, hH40, hN99, hH24⟩, hIg, hIs, hIp, hIh, hIl, hIq⟩ := id hI
  obtain ⟨mcG, hlG⟩ := w_mgates hw
  obtain ⟨mcS, hlS⟩ := w_msleepers hw
  obtain ⟨mcP, hlP⟩ := w_mparts hw
  obtain ⟨mcH, hlH⟩ := w_mhidings hw
  have hql := (hIg g hg).2.2.1
  refine jd_ct (ls := [some (.ref (γ 2 g)), some (.int (nI s)), none]) rfl rfl (by decide) (Nat.le_of_ble_eq_true rfl) rfl ?_
  refine jd_iconst (v := 0) dX8_place_0 (by decide) ?_
  refine jd_istore_n (ls' := [_, _, _]) dX8_place_1 (Nat.le_of_ble_eq_true rfl) rfl rfl ?_
  have lp2_1 : ∀ (j : Nat) (k : Nat) (hk0 : k + j = (gQue κ g).length) (hno : ∀ i, i < k → ¬ qAt κ g i = s), jd_W G mX8_place 3 (0) (0) 2 [some (.ref (γ 2 g)), some (.int (nI s)), some (.int (nI k))] [] h (jd_pu h (.int (oI (placeOf κ g s)))) jd_no := by
    intro j
    induction j with
    | zero =>
      intro k hk0 hno
      obtain rfl : k = (gQue κ g).length := by omega
      refine jd_iload_n dX8_place_2 rfl ?_
      refine jd_aload_n dX8_place_3 rfl ?_
      refine jd_get in_X8 ((w_mgate hw) g (show g < nG κ by omega)) 6 q1554 dX8_place_4 rfl (Nat.le_of_ble_eq_true rfl) rfl ?_
      obtain ⟨mcq2, hqu2⟩ := w_mqueue hw g (show g < nG κ by omega)
      have hql2 := (hIg g (show g < nG κ by omega)).2.2.1
      refine jd_pV (As := []) (rest := [.int (nI ((gQue κ g).length))]) (ct_J2_size hqu2 (by omega)) (jd_rv hqu2 15 rfl rfl) rfl q1750 q344 q1999 q83 q346 nJ2_size dX8_place_7 rfl rfl rfl (Nat.le_of_ble_eq_true rfl) ⟨(Nat.le_of_ble_eq_true rfl), (Nat.le_of_ble_eq_true rfl)⟩ ?_
      refine jd_ncmp_ge (a := (gQue κ g).length) (b := (gQue κ g).length) (tgt := 39) dX8_place_10 (by decide) (by omega) (by omega) (fun z3 => ?_) (fun z4 => ?_)
      · refine jd_iconst (v := (-1)) dX8_place_39 (by decide) ?_
        exact jd_iret dX8_place_40 rfl ⟨by rw [placeOf, ll_find_none hno]; rfl, rfl⟩
      · omega
    | succ j ih2 =>
      intro k hk0 hno
      have hq2 := q_lt hI hg (j := k) (by omega)
      refine jd_iload_n dX8_place_2 rfl ?_
      refine jd_aload_n dX8_place_3 rfl ?_
      refine jd_get in_X8 ((w_mgate hw) g (show g < nG κ by omega)) 6 q1554 dX8_place_4 rfl (Nat.le_of_ble_eq_true rfl) rfl ?_
      obtain ⟨mcq5, hqu5⟩ := w_mqueue hw g (show g < nG κ by omega)
      have hql5 := (hIg g (show g < nG κ by omega)).2.2.1
      refine jd_pV (As := []) (rest := [.int (nI k)]) (ct_J2_size hqu5 (by omega)) (jd_rv hqu5 15 rfl rfl) rfl q1750 q344 q1999 q83 q346 nJ2_size dX8_place_7 rfl rfl rfl (Nat.le_of_ble_eq_true rfl) ⟨(Nat.le_of_ble_eq_true rfl), (Nat.le_of_ble_eq_true rfl)⟩ ?_
      refine jd_ncmp_ge (a := k) (b := (gQue κ g).length) (tgt := 39) dX8_place_10 (by decide) (by omega) (by omega) (fun z6 => ?_) (fun z7 => ?_)
      · omega
      · refine jd_aload_n dX8_place_13 rfl ?_
        refine jd_get in_X8 ((w_mgate hw) g (show g < nG κ by omega)) 6 q1554 dX8_place_14 rfl (Nat.le_of_ble_eq_true rfl) rfl ?_
        refine jd_iload_n dX8_place_17 rfl ?_
        have hbx8 := q_lt hI (g := g) (show g < nG κ by omega) (j := k) (by omega)
        refine jd_pV (As := [.int (nI k)]) (rest := []) (ct_J2_get hqu5 (by omega) (k := k) (show k < (gQue κ g).length by omega)) (jd_rv hqu5 15 rfl rfl) rfl q1751 q325 q2001 q83 q327 nJ2_get dX8_place_18 rfl rfl rfl (Nat.le_of_ble_eq_true rfl) ⟨(Nat.le_of_ble_eq_true rfl), (Nat.le_of_ble_eq_true rfl)⟩ ?_
        refine jd_castS (jd_rvB (k := (qAt κ g k) + 128) (by omega)) (ci := 20) rfl q1752 dX8_place_21 ?_
        refine jd_pV (As := []) (rest := []) (ct_J19_intValue (v := qAt κ g k) (by omega)) (jd_rvB (k := (qAt κ g k) + 128) (by omega)) rfl q1753 q1698 q1699 q115 q1700 nJ19_intValue dX8_place_24 rfl rfl rfl (Nat.le_of_ble_eq_true rfl) ⟨(Nat.le_of_ble_eq_true rfl), (Nat.le_of_ble_eq_true rfl)⟩ ?_
        refine jd_iload_n dX8_place_27 rfl ?_
        refine jd_ncmp_ne (a := qAt κ g k) (b := s) (tgt := 33) dX8_place_28 (by decide) (by omega) (by omega) (fun z9 => ?_) (fun z10 => ?_)
        · have hno2 : ∀ i, i < k + 1 → ¬ qAt κ g i = s := fun i hi => by rcases Nat.lt_succ_iff_lt_or_eq.mp hi with w | w; exact hno i w; exact w ▸ z9
          refine jd_iincN (n := 1) (ls' := [_, _, _]) dX8_place_33 rfl (Nat.le_of_ble_eq_true rfl) rfl rfl ?_
          refine jd_goto (tgt := 2) dX8_place_36 (by decide) ?_
          refine jd_lsub [some (.ref (γ 2 g)), some (.int (nI s)), some (.int (nI (k + 1)))] ⟨rfl, rfl, rfl, trivial⟩ ?_
          exact ih2 (k + 1) (by omega) hno2
        · refine jd_iload_n dX8_place_31 rfl ?_
          exact jd_iret dX8_place_32 rfl ⟨by rw [placeOf, ll_find_some (k := k) (by omega) z10 hno]; rfl, rfl⟩
  refine jd_lsub [some (.ref (γ 2 g)), some (.int (nI s)), some (.int (nI 0))] ⟨rfl, rfl, rfl, trivial⟩ ?_
  exact lp2_1 ((gQue κ g).length) 0 (by omega) (fun i hi => absurd hi (Nat.not_lt_zero i))

set_option maxRecDepth 20000 in
set_option maxHeartbeats 2000000 in
theorem ct_X4_hiddenWorth {G : jd_G} {γ : ll_B} {κ : ll_K} {μ : ll_U} {h : jd_H} (hw : WM G γ κ μ h) (hI : ll_I κ) (g : Nat) (hg : g < nG κ) : jd_Ct G mX4_hiddenWorth 4 (0) (0) [.ref (γ 0 0), .ref (γ 2 g)] h (jd_pu h (.int (hiddenWorth κ g))) jd_no := by
  obtain ⟨⟨hG8, hS12, hP24, hH40, hN99, hH24⟩, hIg, hIs, hIp, hIh, hIl, hIq⟩ := id hI
  obtain ⟨mcG, hlG⟩ := w_mgates hw
  obtain ⟨mcS, hlS⟩ := w_msleepers hw
  obtain ⟨mcP, hlP⟩ := w_mparts hw
  obtain ⟨mcH, hlH⟩ := w_mhidings hw
  have hql := (hIg g hg).2.2.1
  refine jd_ct (ls := [some (.ref (γ 0 0)), some (.ref (γ 2 g)), none, none, none]) rfl rfl (by decide) (Nat.le_of_ble_eq_true rfl) rfl ?_
  refine jd_iconst (v := 0) dX4_hiddenWorth_0 (by decide) ?_
  refine jd_istore_n (ls' := [_, _, _, _, _]) dX4_hiddenWorth_1 (Nat.le_of_ble_eq_true rfl) rfl rfl ?_
  refine jd_iconst (v := 0) dX4_hiddenWorth_2 (by decide) ?_
  refine jd_istore_n (ls' := [_, _, _, _, _]) dX4_hiddenWorth_3 (Nat.le_of_ble_eq_true rfl) rfl rfl ?_
  have lp4_1 : ∀ (j : Nat) (k : Nat) (hk0 : k + j = nP κ), jd_W G mX4_hiddenWorth 4 (0) (0) 4 [some (.ref (γ 0 0)), some (.ref (γ 2 g)), some (.int ((ll_sum (hidF κ g) k))), some (.int (nI k)), none] [] h (jd_pu h (.int (hiddenWorth κ g))) jd_no := by
    intro j
    induction j with
    | zero =>
      intro k hk0
      obtain rfl : k = nP κ := by omega
      refine jd_iload_n dX4_hiddenWorth_4 rfl ?_
      refine jd_aload_n dX4_hiddenWorth_5 rfl ?_
      refine jd_get in_X4 (w_mthis hw) 9 q1475 dX4_hiddenWorth_6 rfl (Nat.le_of_ble_eq_true rfl) rfl ?_
      refine jd_pV (As := []) (rest := [.int (nI (nP κ))]) (ct_J2_size hlP (show nP κ ≤ 900 by omega)) (jd_rv hlP 15 rfl rfl) rfl q1533 q344 q1999 q83 q346 nJ2_size dX4_hiddenWorth_9 rfl rfl rfl (Nat.le_of_ble_eq_true rfl) ⟨(Nat.le_of_ble_eq_true rfl), (Nat.le_of_ble_eq_true rfl)⟩ ?_
      refine jd_ncmp_ge (a := nP κ) (b := nP κ) (tgt := 93) dX4_hiddenWorth_12 (by decide) (by omega) (by omega) (fun z2 => ?_) (fun z3 => ?_)
      · refine jd_iload_n dX4_hiddenWorth_93 rfl ?_
        exact jd_iret dX4_hiddenWorth_94 rfl ⟨congrArg (fun x => some (Value.int x)) (hidM hI hg), rfl⟩
      · omega
    | succ j ih4 =>
      intro k hk0
      have hat := at_bd hI (p := k) (by omega)
      refine jd_iload_n dX4_hiddenWorth_4 rfl ?_
      refine jd_aload_n dX4_hiddenWorth_5 rfl ?_
      refine jd_get in_X4 (w_mthis hw) 9 q1475 dX4_hiddenWorth_6 rfl (Nat.le_of_ble_eq_true rfl) rfl ?_
      refine jd_pV (As := []) (rest := [.int (nI k)]) (ct_J2_size hlP (show nP κ ≤ 900 by omega)) (jd_rv hlP 15 rfl rfl) rfl q1533 q344 q1999 q83 q346 nJ2_size dX4_hiddenWorth_9 rfl rfl rfl (Nat.le_of_ble_eq_true rfl) ⟨(Nat.le_of_ble_eq_true rfl), (Nat.le_of_ble_eq_true rfl)⟩ ?_
      refine jd_ncmp_ge (a := k) (b := nP κ) (tgt := 93) dX4_hiddenWorth_12 (by decide) (by omega) (by omega) (fun z4 => ?_) (fun z5 => ?_)
      · omega
      · refine jd_aload_n dX4_hiddenWorth_15 rfl ?_
        refine jd_get in_X4 (w_mthis hw) 9 q1475 dX4_hiddenWorth_16 rfl (Nat.le_of_ble_eq_true rfl) rfl ?_
        refine jd_iload_n dX4_hiddenWorth_19 rfl ?_
        refine jd_pV (As := [.int (nI k)]) (rest := []) (ct_J2_get hlP (show nP κ ≤ 900 by omega) (k := k) (show k < nP κ by omega)) (jd_rv hlP 15 rfl rfl) rfl q1584 q325 q2001 q83 q327 nJ2_get dX4_hiddenWorth_20 rfl rfl rfl (Nat.le_of_ble_eq_true rfl) ⟨(Nat.le_of_ble_eq_true rfl), (Nat.le_of_ble_eq_true rfl)⟩ ?_
        refine jd_castS (jd_rv ((w_mpart hw) k (show k < nP κ by omega)) 13 rfl rfl) (ci := 13) rfl q1638 dX4_hiddenWorth_23 ?_
        refine jd_getN in_X12 ((w_mpart hw) k (show k < nP κ by omega)) 4 q1649 dX4_hiddenWorth_26 rfl (Nat.le_of_ble_eq_true rfl) rfl ?_
        refine jd_istore (ls' := [_, _, _, _, _]) dX4_hiddenWorth_29 (Nat.le_of_ble_eq_true rfl) rfl rfl ?_
        refine jd_iload dX4_hiddenWorth_31 rfl ?_
        refine jd_bipush (v := 100) dX4_hiddenWorth_33 (by decide) ?_
        refine jd_ncmp_ge (a := (pAt κ k)) (b := 100) (tgt := 87) dX4_hiddenWorth_35 (by decide) (by omega) (by omega) (fun z6 => ?_) (fun z7 => ?_)
        · refine jd_iincN (n := 1) (ls' := [_, _, _, _, _]) dX4_hiddenWorth_87 rfl (Nat.le_of_ble_eq_true rfl) rfl rfl ?_
          refine jd_goto (tgt := 4) dX4_hiddenWorth_90 (by decide) ?_
          refine jd_lsub [some (.ref (γ 0 0)), some (.ref (γ 2 g)), some (.int ((ll_sum (hidF κ g) (k + 1)))), some (.int (nI (k + 1))), none] ⟨rfl, rfl, (congrArg (fun x => some (Value.int x)) (hid_n0 z6)), rfl, trivial⟩ ?_
          exact ih4 (k + 1) (by omega)
        · have hl3 := (landM hI (p := k) (by omega)).2.2 (by omega)
          refine jd_aload_n dX4_hiddenWorth_38 rfl ?_
          refine jd_iload dX4_hiddenWorth_39 rfl ?_
          refine jd_pV (As := [.int (nI ((pAt κ k)))]) (rest := []) (ct_X8_place hw hI (g) ((pAt κ k)) (by omega) (by omega)) (jd_rv ((w_mgate hw) g (show g < nG κ by omega)) 11 rfl rfl) rfl q1746 q1747 q1748 q104 q1749 nX8_place dX4_hiddenWorth_41 rfl rfl rfl (Nat.le_of_ble_eq_true rfl) ⟨(Nat.le_of_ble_eq_true rfl), (Nat.le_of_ble_eq_true rfl)⟩ ?_
          refine jd_iconst (v := (-1)) dX4_hiddenWorth_44 (by decide) ?_
          refine jd_ocmpN_eq (tgt := 87) dX4_hiddenWorth_45 (by decide) (fun j hj => by have := ll_find_lt hj; have := (hIg (g) (by omega)).2.2.1; omega) (fun z8 => ?_) (fun z9 => ?_)
          · refine jd_iincN (n := 1) (ls' := [_, _, _, _, _]) dX4_hiddenWorth_87 rfl (Nat.le_of_ble_eq_true rfl) rfl rfl ?_
            refine jd_goto (tgt := 4) dX4_hiddenWorth_90 (by decide) ?_
            refine jd_lsub [some (.ref (γ 0 0)), some (.ref (γ 2 g)), some (.int ((ll_sum (hidF κ g) (k + 1)))), some (.int (nI (k + 1))), none] ⟨rfl, rfl, (congrArg (fun x => some (Value.int x)) (hid_n1 z8)), rfl, trivial⟩ ?_
            exact ih4 (k + 1) (by omega)
          · refine jd_aload_n dX4_hiddenWorth_48 rfl ?_
            refine jd_get in_X4 (w_mthis hw) 8 q1474 dX4_hiddenWorth_49 rfl (Nat.le_of_ble_eq_true rfl) rfl ?_
            refine jd_iload dX4_hiddenWorth_52 rfl ?_
            refine jd_pV (As := [.int (nI ((pAt κ k)))]) (rest := []) (ct_J2_get hlS (show nS κ ≤ 900 by omega) (k := (pAt κ k)) (show (pAt κ k) < nS κ by omega)) (jd_rv hlS 15 rfl rfl) rfl q1584 q325 q2001 q83 q327 nJ2_get dX4_hiddenWorth_54 rfl rfl rfl (Nat.le_of_ble_eq_true rfl) ⟨(Nat.le_of_ble_eq_true rfl), (Nat.le_of_ble_eq_true rfl)⟩ ?_
            refine jd_castS (jd_rv ((w_msleeper hw) (pAt κ k) (show pAt κ k < nS κ by omega)) 12 rfl rfl) (ci := 12) rfl q1593 dX4_hiddenWorth_57 ?_
            refine jd_getN in_X10 ((w_msleeper hw) (pAt κ k) (show pAt κ k < nS κ by omega)) 5 q1605 dX4_hiddenWorth_60 rfl (Nat.le_of_ble_eq_true rfl) rfl ?_
            obtain ⟨sp, hsp⟩ := Option.ne_none_iff_exists'.mp z9
            have hrs := (hIg g hg).2.2.2.2.1 _ (show pAt κ k ∈ gQue κ g from by rw [← ll_find_P (P := fun j => qAt κ g j = pAt κ k) hsp]; exact qAt_mem (ll_find_lt hsp))
            refine jd_top (w := .int (sDecl κ (pAt κ k))) (congrArg Value.int (w_mdecl hw _ hl3.2 hrs.2.1)) ?_
            refine jd_iload_n dX4_hiddenWorth_63 rfl ?_
            refine jd_ishr dX4_hiddenWorth_64 ?_
            refine jd_iconst (v := 1) dX4_hiddenWorth_65 (by decide) ?_
            refine jd_iand dX4_hiddenWorth_66 ?_
            refine jd_if_ne (tgt := 87) dX4_hiddenWorth_67 (by decide) (fun z10 => ?_) (fun z11 => ?_)
            · have hbit := has_t (x := sDecl κ (pAt κ k)) (by omega) z10
              refine jd_iincN (n := 1) (ls' := [_, _, _, _, _]) dX4_hiddenWorth_87 rfl (Nat.le_of_ble_eq_true rfl) rfl rfl ?_
              refine jd_goto (tgt := 4) dX4_hiddenWorth_90 (by decide) ?_
              refine jd_lsub [some (.ref (γ 0 0)), some (.ref (γ 2 g)), some (.int ((ll_sum (hidF κ g) (k + 1)))), some (.int (nI (k + 1))), none] ⟨rfl, rfl, (congrArg (fun x => some (Value.int x)) (hid_n2 (Nat.not_le.mp (Nat.not_le.mpr z7)) z9 hbit)), rfl, trivial⟩ ?_
              exact ih4 (k + 1) (by omega)
            · have hbit := (has01 (x := sDecl κ (pAt κ k)) (by omega)).mp z11
              refine jd_iload_n dX4_hiddenWorth_70 rfl ?_
              refine jd_aload_n dX4_hiddenWorth_71 rfl ?_
              refine jd_get in_X4 (w_mthis hw) 9 q1475 dX4_hiddenWorth_72 rfl (Nat.le_of_ble_eq_true rfl) rfl ?_
              refine jd_iload_n dX4_hiddenWorth_75 rfl ?_
              refine jd_pV (As := [.int (nI k)]) (rest := [.int ((ll_sum (hidF κ g) k))]) (ct_J2_get hlP (show nP κ ≤ 900 by omega) (k := k) (show k < nP κ by omega)) (jd_rv hlP 15 rfl rfl) rfl q1584 q325 q2001 q83 q327 nJ2_get dX4_hiddenWorth_76 rfl rfl rfl (Nat.le_of_ble_eq_true rfl) ⟨(Nat.le_of_ble_eq_true rfl), (Nat.le_of_ble_eq_true rfl)⟩ ?_
              refine jd_castS (jd_rv ((w_mpart hw) k (show k < nP κ by omega)) 13 rfl rfl) (ci := 13) rfl q1638 dX4_hiddenWorth_79 ?_
              refine jd_getN in_X12 ((w_mpart hw) k (show k < nP κ by omega)) 1 q1645 dX4_hiddenWorth_82 rfl (Nat.le_of_ble_eq_true rfl) rfl ?_
              refine jd_iadd dX4_hiddenWorth_85 ?_
              refine jd_istore_n (ls' := [_, _, _, _, _]) dX4_hiddenWorth_86 (Nat.le_of_ble_eq_true rfl) rfl rfl ?_
              refine jd_iincN (n := 1) (ls' := [_, _, _, _, _]) dX4_hiddenWorth_87 rfl (Nat.le_of_ble_eq_true rfl) rfl rfl ?_
              refine jd_goto (tgt := 4) dX4_hiddenWorth_90 (by decide) ?_
              refine jd_lsub [some (.ref (γ 0 0)), some (.ref (γ 2 g)), some (.int ((ll_sum (hidF κ g) (k + 1)))), some (.int (nI (k + 1))), none] ⟨rfl, rfl, (congrArg (fun x => some (Value.int (_ + x))) (hid_y (Nat.not_le.mp (Nat.not_le.mpr z7)) z9 hbit)), rfl, trivial⟩ ?_
              exact ih4 (k + 1) (by omega)
  refine jd_lsub [some (.ref (γ 0 0)), some (.ref (γ 2 g)), some (.int ((ll_sum (hidF κ g) 0))), some (.int (nI 0)), none] ⟨rfl, rfl, rfl, rfl, trivial⟩ ?_
  exact lp4_1 (nP κ) 0 (by omega)
