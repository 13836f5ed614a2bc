/-! the model: yawns (printed by mk_c.py) -/
set_option maxRecDepth 20000 in
set_option maxHeartbeats 2000000 in
theorem ct_X4_hide {G : jd_G} {γ : ll_B} {κ : ll_K} {μ : ll_U} {h : jd_H} (hw : WM G γ κ μ h) (s d : Nat) (hs : s < 128) (hd : d < 128) (h40 : (hids κ).length ≤ 40) (hN : nNight κ < 128) (hb0 : ∀ j, hidN κ j < 128) : jd_Ct G mX4_hide 11 (3) (600) [.ref (γ 0 0), .int (nI s), .int (nI d)] h (fun (r : Option Value) (h2 : jd_H) => r = none ∧ WM G γ (k_hidM κ s d) μ h2 ∧ ∀ j : jd_Id, (j.1 < 20 ∨ 40 ≤ j.1) → h2 j = h j) jd_no := by
  obtain ⟨mcH, hlH⟩ := w_mhidings hw
  refine jd_ct (ls := [some (.ref (γ 0 0)), some (.int (nI s)), some (.int (nI d))]) rfl rfl (by decide) (Nat.le_of_ble_eq_true rfl) rfl ?_
  refine jd_aload_n dX4_hide_0 rfl ?_
  refine jd_get in_X4 (w_mthis hw) 10 q1476 dX4_hide_1 rfl (Nat.le_of_ble_eq_true rfl) rfl ?_
  refine jd_pV (As := []) (rest := []) (ct_J2_size hlH (show 3 * (hids κ).length ≤ 900 by omega)) (jd_rv hlH 15 rfl rfl) rfl q1533 q344 q1999 q83 q346 nJ2_size dX4_hide_4 rfl rfl rfl (Nat.le_of_ble_eq_true rfl) ⟨(Nat.le_of_ble_eq_true rfl), (Nat.le_of_ble_eq_true rfl)⟩ ?_
  refine jd_bipush (v := 120) dX4_hide_7 (by decide) ?_
  refine jd_ncmp_ne (a := 3 * (hids κ).length) (b := 120) (tgt := 13) dX4_hide_9 (by decide) (by omega) (by omega) (fun z1 => ?_) (fun z2 => ?_)
  · refine jd_aload_n dX4_hide_13 rfl ?_
    refine jd_get in_X4 (w_mthis hw) 10 q1476 dX4_hide_14 rfl (Nat.le_of_ble_eq_true rfl) rfl ?_
    refine jd_iload_n dX4_hide_17 rfl ?_
    refine jd_pS (As := [.int (nI s)]) (rest := [.ref (γ 0 5)]) (ct_J19_valueOf (v := s) (by omega)) rfl q1701 q1702 q115 q1703 nJ19_valueOf dX4_hide_18 rfl rfl (Nat.le_of_ble_eq_true rfl) ⟨(Nat.le_of_ble_eq_true rfl), (Nat.le_of_ble_eq_true rfl)⟩ ?_
    refine jd_callV (As := [.ref (jd_bx G s)]) (rest := []) (ct_J2_add hlH (show 3 * (hids κ).length ≤ 600 by omega) (Cn := "java/lang/Integer") q2027 (fun j hj => jd_bx_Ob (hb0 j)) (jd_bx_Ob hs)) (jd_rv hlH 15 rfl rfl) rfl q1575 q210 q2000 q83 q212 nJ2_add dX4_hide_21 rfl rfl rfl (Nat.le_of_ble_eq_true rfl) ⟨(Nat.le_of_ble_eq_true rfl), (Nat.le_of_ble_eq_true rfl), by omega, by omega⟩ (fun rv2 hn2 hq2 => ?_) jd_nox
    obtain ⟨rfl, he2⟩ := hq2
    rw [he2, va_bx]
    refine jd_updG (fun h2 hs2 ho2 => ?_)
    have hb1 := va_bA (n := 3 * (hids κ).length) hb0 hs
    refine jd_pop dX4_hide_24 rfl ?_
    refine jd_aload_n dX4_hide_25 rfl ?_
    refine jd_get in_X4 ((ho2 _ (fun z => by cases z)).trans (w_mthis hw)) 10 q1476 dX4_hide_26 rfl (Nat.le_of_ble_eq_true rfl) rfl ?_
    refine jd_iload_n dX4_hide_29 rfl ?_
    refine jd_pS (As := [.int (nI d)]) (rest := [.ref (γ 0 5)]) (ct_J19_valueOf (v := d) (by omega)) rfl q1701 q1702 q115 q1703 nJ19_valueOf dX4_hide_30 rfl rfl (Nat.le_of_ble_eq_true rfl) ⟨(Nat.le_of_ble_eq_true rfl), (Nat.le_of_ble_eq_true rfl)⟩ ?_
    refine jd_callV (As := [.ref (jd_bx G d)]) (rest := []) (ct_J2_add hs2 (show 3 * (hids κ).length + 1 ≤ 600 by omega) (Cn := "java/lang/Integer") q2027 (fun j hj => jd_bx_Ob (hb1 j)) (jd_bx_Ob hd)) (jd_rv hs2 15 rfl rfl) rfl q1575 q210 q2000 q83 q212 nJ2_add dX4_hide_33 rfl rfl rfl (Nat.le_of_ble_eq_true rfl) ⟨(Nat.le_of_ble_eq_true rfl), (Nat.le_of_ble_eq_true rfl), by omega, by omega⟩ (fun rv3 hn3 hq3 => ?_) jd_nox
    obtain ⟨rfl, he3⟩ := hq3
    rw [he3, va_bx]
    refine jd_updG (fun h3 hs3 ho3 => ?_)
    have hb2 := va_bA (n := 3 * (hids κ).length + 1) hb1 hd
    refine jd_pop dX4_hide_36 rfl ?_
    refine jd_aload_n dX4_hide_37 rfl ?_
    refine jd_get in_X4 ((ho3 _ (fun z => by cases z)).trans ((ho2 _ (fun z => by cases z)).trans (w_mthis hw))) 10 q1476 dX4_hide_38 rfl (Nat.le_of_ble_eq_true rfl) rfl ?_
    refine jd_aload_n dX4_hide_41 rfl ?_
    refine jd_get in_X4 ((ho3 _ (fun z => by cases z)).trans ((ho2 _ (fun z => by cases z)).trans (w_mthis hw))) 1 q1467 dX4_hide_42 rfl (Nat.le_of_ble_eq_true rfl) rfl ?_
    refine jd_pS (As := [.int (nI ((nNight κ)))]) (rest := [.ref (γ 0 5)]) (ct_J19_valueOf (v := (nNight κ)) (by omega)) rfl q1701 q1702 q115 q1703 nJ19_valueOf dX4_hide_45 rfl rfl (Nat.le_of_ble_eq_true rfl) ⟨(Nat.le_of_ble_eq_true rfl), (Nat.le_of_ble_eq_true rfl)⟩ ?_
    refine jd_callV (As := [.ref (jd_bx G ((nNight κ)))]) (rest := []) (ct_J2_add hs3 (show 3 * (hids κ).length + 1 + 1 ≤ 600 by omega) (Cn := "java/lang/Integer") q2027 (fun j hj => jd_bx_Ob (hb2 j)) (jd_bx_Ob hN)) (jd_rv hs3 15 rfl rfl) rfl q1575 q210 q2000 q83 q212 nJ2_add dX4_hide_48 rfl rfl rfl (Nat.le_of_ble_eq_true rfl) ⟨(Nat.le_of_ble_eq_true rfl), (Nat.le_of_ble_eq_true rfl), by omega, by omega⟩ (fun rv4 hn4 hq4 => ?_) jd_nox
    obtain ⟨rfl, he4⟩ := hq4
    rw [he4, va_bx]
    refine jd_updG (fun h4 hs4 ho4 => ?_)
    have hb3 := va_bA (n := 3 * (hids κ).length + 1 + 1) hb2 hN
    refine jd_pop dX4_hide_51 rfl ?_
    exact jd_vret dX4_hide_52 rfl ⟨rfl, by rw [k_hidM, if_pos (by omega)]; exact m_hid hw hs4 (fun j hj => (ho4 j hj).trans ((ho3 j hj).trans (ho2 j hj))), (fun j hj => ((ho4 j (ll_nel (by decide) hj)).trans ((ho3 j (ll_nel (by decide) hj)).trans (ho2 j (ll_nel (by decide) hj)))))⟩
  · exact jd_vret dX4_hide_12 rfl ⟨rfl, by rw [k_hidM, if_neg (by omega)]; exact hw, fun j hj => rfl⟩

set_option maxRecDepth 20000 in
set_option maxHeartbeats 2000000 in
theorem ct_X8_place_n {G : jd_G} {γ : ll_B} {κ : ll_K} {μ : ll_U} {h : jd_H} (hw : WM G γ κ μ h) (g s : Nat) (hg : g < nG κ) (hs : s < 2 ^ 31) (hql : (gQue κ g).length ≤ 12) (hqb : ∀ j, j < (gQue κ g).length → qAt κ g j < 128) : jd_Ct G mX8_place 3 (0) (0) [.ref (γ 2 g), .int (nI s)] h (jd_pu h (.int (oI (placeOf κ g s)))) jd_no := by
  have hnone := True.intro
  refine jd_ct (ls := [some (.ref (γ 2 g)), some (.int (nI s)), none]) rfl rfl (by decide) (Nat.le_of_ble_eq_true rfl) rfl ?_
  refine jd_iconst (v := 0) dX8_place_0 (by decide) ?_
  refine jd_istore_n (ls' := [_, _, _]) dX8_place_1 (Nat.le_of_ble_eq_true rfl) rfl rfl ?_
  have lp2_1 : ∀ (j : Nat) (k : Nat) (hk0 : k + j = (gQue κ g).length) (hno : ∀ i, i < k → ¬ qAt κ g i = s), jd_W G mX8_place 3 (0) (0) 2 [some (.ref (γ 2 g)), some (.int (nI s)), some (.int (nI k))] [] h (jd_pu h (.int (oI (placeOf κ g s)))) jd_no := by
    intro j
    induction j with
    | zero =>
      intro k hk0 hno
      obtain rfl : k = (gQue κ g).length := by omega
      refine jd_iload_n dX8_place_2 rfl ?_
      refine jd_aload_n dX8_place_3 rfl ?_
      refine jd_get in_X8 ((w_mgate hw) g (show g < nG κ by omega)) 6 q1554 dX8_place_4 rfl (Nat.le_of_ble_eq_true rfl) rfl ?_
      obtain ⟨mcq2, hqu2⟩ := w_mqueue hw g (show g < nG κ by omega)
      refine jd_pV (As := []) (rest := [.int (nI ((gQue κ g).length))]) (ct_J2_size hqu2 (by omega)) (jd_rv hqu2 15 rfl rfl) rfl q1750 q344 q1999 q83 q346 nJ2_size dX8_place_7 rfl rfl rfl (Nat.le_of_ble_eq_true rfl) ⟨(Nat.le_of_ble_eq_true rfl), (Nat.le_of_ble_eq_true rfl)⟩ ?_
      refine jd_ncmp_ge (a := (gQue κ g).length) (b := (gQue κ g).length) (tgt := 39) dX8_place_10 (by decide) (by omega) (by omega) (fun z3 => ?_) (fun z4 => ?_)
      · refine jd_iconst (v := (-1)) dX8_place_39 (by decide) ?_
        exact jd_iret dX8_place_40 rfl ⟨by rw [placeOf, ll_find_none hno]; rfl, rfl⟩
      · omega
    | succ j ih2 =>
      intro k hk0 hno
      have hq2 := hqb k (by omega)
      refine jd_iload_n dX8_place_2 rfl ?_
      refine jd_aload_n dX8_place_3 rfl ?_
      refine jd_get in_X8 ((w_mgate hw) g (show g < nG κ by omega)) 6 q1554 dX8_place_4 rfl (Nat.le_of_ble_eq_true rfl) rfl ?_
      obtain ⟨mcq5, hqu5⟩ := w_mqueue hw g (show g < nG κ by omega)
      refine jd_pV (As := []) (rest := [.int (nI k)]) (ct_J2_size hqu5 (by omega)) (jd_rv hqu5 15 rfl rfl) rfl q1750 q344 q1999 q83 q346 nJ2_size dX8_place_7 rfl rfl rfl (Nat.le_of_ble_eq_true rfl) ⟨(Nat.le_of_ble_eq_true rfl), (Nat.le_of_ble_eq_true rfl)⟩ ?_
      refine jd_ncmp_ge (a := k) (b := (gQue κ g).length) (tgt := 39) dX8_place_10 (by decide) (by omega) (by omega) (fun z6 => ?_) (fun z7 => ?_)
      · omega
      · refine jd_aload_n dX8_place_13 rfl ?_
        refine jd_get in_X8 ((w_mgate hw) g (show g < nG κ by omega)) 6 q1554 dX8_place_14 rfl (Nat.le_of_ble_eq_true rfl) rfl ?_
        refine jd_iload_n dX8_place_17 rfl ?_
        refine jd_pV (As := [.int (nI k)]) (rest := []) (ct_J2_get hqu5 (by omega) (k := k) (show k < (gQue κ g).length by omega)) (jd_rv hqu5 15 rfl rfl) rfl q1751 q325 q2001 q83 q327 nJ2_get dX8_place_18 rfl rfl rfl (Nat.le_of_ble_eq_true rfl) ⟨(Nat.le_of_ble_eq_true rfl), (Nat.le_of_ble_eq_true rfl)⟩ ?_
        refine jd_castS (jd_rvB (k := (qAt κ g k) + 128) (by omega)) (ci := 20) rfl q1752 dX8_place_21 ?_
        refine jd_pV (As := []) (rest := []) (ct_J19_intValue (v := qAt κ g k) (by omega)) (jd_rvB (k := (qAt κ g k) + 128) (by omega)) rfl q1753 q1698 q1699 q115 q1700 nJ19_intValue dX8_place_24 rfl rfl rfl (Nat.le_of_ble_eq_true rfl) ⟨(Nat.le_of_ble_eq_true rfl), (Nat.le_of_ble_eq_true rfl)⟩ ?_
        refine jd_iload_n dX8_place_27 rfl ?_
        refine jd_ncmp_ne (a := qAt κ g k) (b := s) (tgt := 33) dX8_place_28 (by decide) (by omega) (by omega) (fun z8 => ?_) (fun z9 => ?_)
        · have hno2 : ∀ i, i < k + 1 → ¬ qAt κ g i = s := fun i hi => by rcases Nat.lt_succ_iff_lt_or_eq.mp hi with w | w; exact hno i w; exact w ▸ z8
          refine jd_iincN (n := 1) (ls' := [_, _, _]) dX8_place_33 rfl (Nat.le_of_ble_eq_true rfl) rfl rfl ?_
          refine jd_goto (tgt := 2) dX8_place_36 (by decide) ?_
          refine jd_lsub [some (.ref (γ 2 g)), some (.int (nI s)), some (.int (nI (k + 1)))] ⟨rfl, rfl, rfl, trivial⟩ ?_
          exact ih2 (k + 1) (by omega) hno2
        · refine jd_iload_n dX8_place_31 rfl ?_
          exact jd_iret dX8_place_32 rfl ⟨by rw [placeOf, ll_find_some (k := k) (by omega) z9 hno]; rfl, rfl⟩
  refine jd_lsub [some (.ref (γ 2 g)), some (.int (nI s)), some (.int (nI 0))] ⟨rfl, rfl, rfl, trivial⟩ ?_
  exact lp2_1 ((gQue κ g).length) 0 (by omega) (fun i hi => absurd hi (Nat.not_lt_zero i))

set_option maxRecDepth 20000 in
set_option maxHeartbeats 2000000 in
theorem ct_X4_stepOut_2 {G : jd_G} {γ : ll_B} {κ : ll_K} {μ : ll_U} {h : jd_H} (hw : WM G γ κ μ h) (s g p : Nat) (hs : s < nS κ) (hg1 : sGate κ s = some g) (hg2 : g < nG κ) (hp1 : placeOf κ g s = some p) (hp2 : p < (gQue κ g).length) (hql : (gQue κ g).length ≤ 12) (hqb : ∀ j, j < (gQue κ g).length → qAt κ g j < 128) (h24 : nP κ ≤ 24) (h12 : nS κ ≤ 12) (h8 : nG κ ≤ 8) (hst : ∀ q, q < nP κ → ∀ t, pHead κ q = some t → pStore κ q = none ∧ t < 128) (hsl : ∀ q, q < nP κ → ∀ l, pStore κ q = some l → l < 6) : jd_Ct G mX4_stepOut 11 (0) (0) [.ref (γ 0 0), .int (nI s), .int (2)] h (fun (r : Option Value) (h2 : jd_H) => r = none ∧ WM G γ (k_wake (ll_sq κ g ((gQue κ g).eraseIdx p)) s) μ h2 ∧ ∀ j : jd_Id, (j.1 < 20 ∨ 40 ≤ j.1) → h2 j = h j) jd_no := by
  obtain ⟨mcG, hlG⟩ := w_mgates hw
  obtain ⟨mcS, hlS⟩ := w_msleepers hw
  obtain ⟨mcP, hlP⟩ := w_mparts hw
  refine jd_ct (ls := [some (.ref (γ 0 0)), some (.int (nI s)), some (.int (2)), none, none, none]) rfl rfl (by decide) (Nat.le_of_ble_eq_true rfl) rfl ?_
  refine jd_aload_n dX4_stepOut_0 rfl ?_
  refine jd_get in_X4 (w_mthis hw) 8 q1474 dX4_stepOut_1 rfl (Nat.le_of_ble_eq_true rfl) rfl ?_
  refine jd_iload_n dX4_stepOut_4 rfl ?_
  refine jd_pV (As := [.int (nI s)]) (rest := []) (ct_J2_get hlS (show nS κ ≤ 900 by omega) (k := s) (show s < nS κ by omega)) (jd_rv hlS 15 rfl rfl) rfl q1584 q325 q2001 q83 q327 nJ2_get dX4_stepOut_5 rfl rfl rfl (Nat.le_of_ble_eq_true rfl) ⟨(Nat.le_of_ble_eq_true rfl), (Nat.le_of_ble_eq_true rfl)⟩ ?_
  refine jd_castS (jd_rv ((w_msleeper hw) s (show s < nS κ by omega)) 12 rfl rfl) (ci := 12) rfl q1593 dX4_stepOut_8 ?_
  refine jd_astore_n (ls' := [_, _, _, _, _, _]) dX4_stepOut_11 (Nat.le_of_ble_eq_true rfl) rfl rfl ?_
  refine jd_aload_n dX4_stepOut_12 rfl ?_
  refine jd_get in_X4 (w_mthis hw) 7 q1473 dX4_stepOut_13 rfl (Nat.le_of_ble_eq_true rfl) rfl ?_
  refine jd_aload_n dX4_stepOut_16 rfl ?_
  refine jd_getN in_X10 ((w_msleeper hw) s (show s < nS κ by omega)) 4 q1604 dX4_stepOut_17 rfl (Nat.le_of_ble_eq_true rfl) rfl ?_
  refine jd_top (w := .int (nI g)) (congrArg Value.int (by rw [hg1]; rfl)) ?_
  refine jd_pV (As := [.int (nI g)]) (rest := []) (ct_J2_get hlG (show nG κ ≤ 900 by omega) (k := g) (show g < nG κ by omega)) (jd_rv hlG 15 rfl rfl) rfl q1584 q325 q2001 q83 q327 nJ2_get dX4_stepOut_20 rfl rfl rfl (Nat.le_of_ble_eq_true rfl) ⟨(Nat.le_of_ble_eq_true rfl), (Nat.le_of_ble_eq_true rfl)⟩ ?_
  refine jd_castS (jd_rv ((w_mgate hw) g (show g < nG κ by omega)) 11 rfl rfl) (ci := 11) rfl q1534 dX4_stepOut_23 ?_
  refine jd_astore (ls' := [_, _, _, _, _, _]) dX4_stepOut_26 (Nat.le_of_ble_eq_true rfl) rfl rfl ?_
  refine jd_aload dX4_stepOut_28 rfl ?_
  refine jd_getN in_X8 ((w_mgate hw) g (show g < nG κ by omega)) 6 q1555 dX4_stepOut_30 rfl (Nat.le_of_ble_eq_true rfl) rfl ?_
  refine jd_aload dX4_stepOut_33 rfl ?_
  refine jd_iload_n dX4_stepOut_35 rfl ?_
  refine jd_pV (As := [.int (nI s)]) (rest := [.ref (γ 3 g)]) (ct_X8_place_n hw (g) (s) (by omega) (by omega) hql hqb) (jd_rv ((w_mgate hw) g (show g < nG κ by omega)) 11 rfl rfl) rfl q1746 q1747 q1748 q104 q1749 nX8_place dX4_stepOut_36 rfl rfl rfl (Nat.le_of_ble_eq_true rfl) ⟨(Nat.le_of_ble_eq_true rfl), (Nat.le_of_ble_eq_true rfl)⟩ ?_
  refine jd_top (w := .int (nI p)) (congrArg Value.int (by rw [hp1]; rfl)) ?_
  obtain ⟨mcq1, hqu1⟩ := w_mqueue hw g (show g < nG κ by omega)
  refine jd_callV (As := [.int (nI p)]) (rest := []) (ct_J2_remove hqu1 (by omega) (k := p) hp2 (Cn := "java/lang/Integer") q2027 (fun i hi => jd_bx_Ob (show qAt κ g i < 128 from by have := hqb i hi; omega))) (jd_rv hqu1 15 rfl rfl) rfl q1758 q1007 q2002 q83 q1009 nJ2_remove dX4_stepOut_39 rfl rfl rfl (Nat.le_of_ble_eq_true rfl) ⟨(Nat.le_of_ble_eq_true rfl), (Nat.le_of_ble_eq_true rfl), by omega, by omega⟩ (fun rv1 hn1 hq1 => ?_) jd_nox
  obtain ⟨rfl, he1⟩ := hq1
  rw [he1]
  refine jd_updG (fun h1 hs1 ho1 => ?_)
  have hw1_ := m_gQue hw (k := g) (show g < nG κ by omega) (er_len hp2) (er_fun (jd_bx G)) hs1 ho1
  refine jd_pop dX4_stepOut_42 rfl ?_
  refine jd_aload_n dX4_stepOut_43 rfl ?_
  refine jd_iload_n dX4_stepOut_44 rfl ?_
  refine jd_putN (fs' := [_, _, _, _, _, _, _, _, _]) in_X10 tyX10_ok nmX10 ((w_msleeper hw1_) s (show s < nS κ by omega)) 3 q1602 dX4_stepOut_45 rfl (Nat.le_of_ble_eq_true rfl) rfl rfl rfl (Nat.le_of_ble_eq_true rfl) rfl ?_
  refine jd_updG (fun h3 hs3 ho3 => ?_)
  have hw3 := m_sRest hw1_ (k := s) (show s < nS κ by omega) (v := 2) (d := 0) (fun w => absurd w (by decide)) hs3 ho3
  refine jd_aload_n dX4_stepOut_48 rfl ?_
  refine jd_iconst (v := (-1)) dX4_stepOut_49 (by decide) ?_
  refine jd_putN (fs' := [_, _, _, _, _, _, _, _, _]) in_X10 tyX10_ok nmX10 ((w_msleeper hw3) s (show s < nS κ by omega)) 4 q1604 dX4_stepOut_50 rfl (Nat.le_of_ble_eq_true rfl) rfl rfl rfl (Nat.le_of_ble_eq_true rfl) rfl ?_
  refine jd_updG (fun h4 hs4 ho4 => ?_)
  have hw4 := m_sGate hw3 (k := s) (show s < nS κ by omega) (v := none) hs4 ho4
  have hwL : WM G γ (ll_sn (k_lie (ll_sq κ g ((gQue κ g).eraseIdx p)) s) 3 s 2) μ h4 := by rw [lie_wake]; exact hw4
  refine jd_iconst (v := 0) dX4_stepOut_53 (by decide) ?_
  refine jd_istore (ls' := [_, _, _, _, _, _]) dX4_stepOut_54 (Nat.le_of_ble_eq_true rfl) rfl rfl ?_
  have lp56_5 : ∀ (j : Nat) (k : Nat) (hk0 : k + j = nP κ) (hh : jd_H) (hw2 : WM G γ (k_wk (ll_sn (k_lie (ll_sq κ g ((gQue κ g).eraseIdx p)) s) 3 s 2) s k) μ hh) (hf2 : ∀ j : jd_Id, (j.1 < 20 ∨ 40 ≤ j.1) → hh j = h j), jd_W G mX4_stepOut 11 (0 - 0) (0 - 0) 56 [some (.ref (γ 0 0)), some (.int (nI s)), some (.int (2)), some (.ref (γ 5 s)), some (.ref (γ 2 g)), some (.int (nI k))] [] hh (fun (r : Option Value) (h2 : jd_H) => r = none ∧ WM G γ (k_wake (ll_sq κ g ((gQue κ g).eraseIdx p)) s) μ h2 ∧ ∀ j : jd_Id, (j.1 < 20 ∨ 40 ≤ j.1) → h2 j = h j) jd_no := by
    intro j
    induction j with
    | zero =>
      intro k hk0 hh hw2 hf2
      obtain rfl : k = nP κ := by omega
      refine jd_iload dX4_stepOut_56 rfl ?_
      refine jd_aload_n dX4_stepOut_58 rfl ?_
      refine jd_get in_X4 (w_mthis hw2) 9 q1475 dX4_stepOut_59 rfl (Nat.le_of_ble_eq_true rfl) rfl ?_
      obtain ⟨mcl6, hl6_⟩ := w_mparts hw2
      refine jd_pV (As := []) (rest := [.int (nI (nP κ))]) (ct_J2_size hl6_ (show nP κ ≤ 900 by omega)) (jd_rv hl6_ 15 rfl rfl) rfl q1533 q344 q1999 q83 q346 nJ2_size dX4_stepOut_62 rfl rfl rfl (Nat.le_of_ble_eq_true rfl) ⟨(Nat.le_of_ble_eq_true rfl), (Nat.le_of_ble_eq_true rfl)⟩ ?_
      refine jd_ncmp_ge (a := nP κ) (b := nP κ) (tgt := 116) dX4_stepOut_65 (by decide) (by omega) (by omega) (fun z7 => ?_) (fun z8 => ?_)
      · exact jd_vret dX4_stepOut_116 rfl ⟨rfl, hw2, (fun j hj => (hf2 j hj))⟩
      · omega
    | succ j ih56 =>
      intro k hk0 hh hw2 hf2
      have hat : pAt (k_wk (ll_sn (k_lie (ll_sq κ g ((gQue κ g).eraseIdx p)) s) 3 s 2) s k) k ≤ 999 := at_bdW (fun t ht => (hst k (by omega) t (wkH ht)).2) (fun l hl => hsl k (by omega) l (by rw [wkS] at hl; exact hl))
      refine jd_iload dX4_stepOut_56 rfl ?_
      refine jd_aload_n dX4_stepOut_58 rfl ?_
      refine jd_get in_X4 (w_mthis hw2) 9 q1475 dX4_stepOut_59 rfl (Nat.le_of_ble_eq_true rfl) rfl ?_
      obtain ⟨mcl9, hl9_⟩ := w_mparts hw2
      refine jd_pV (As := []) (rest := [.int (nI k)]) (ct_J2_size hl9_ (show nP κ ≤ 900 by omega)) (jd_rv hl9_ 15 rfl rfl) rfl q1533 q344 q1999 q83 q346 nJ2_size dX4_stepOut_62 rfl rfl rfl (Nat.le_of_ble_eq_true rfl) ⟨(Nat.le_of_ble_eq_true rfl), (Nat.le_of_ble_eq_true rfl)⟩ ?_
      refine jd_ncmp_ge (a := k) (b := nP κ) (tgt := 116) dX4_stepOut_65 (by decide) (by omega) (by omega) (fun z10 => ?_) (fun z11 => ?_)
      · omega
      · refine jd_iload_n dX4_stepOut_68 rfl ?_
        refine jd_iconst (v := 2) dX4_stepOut_69 (by decide) ?_
        refine jd_ncmp_ne (a := 2) (b := 2) (tgt := 116) dX4_stepOut_70 (by decide) (by omega) (by omega) (fun z12 => ?_) (fun z13 => ?_)
        · omega
        · refine jd_aload_n dX4_stepOut_73 rfl ?_
          refine jd_get in_X4 (w_mthis hw2) 9 q1475 dX4_stepOut_74 rfl (Nat.le_of_ble_eq_true rfl) rfl ?_
          refine jd_iload dX4_stepOut_77 rfl ?_
          refine jd_pV (As := [.int (nI k)]) (rest := []) (ct_J2_get hl9_ (show nP κ ≤ 900 by omega) (k := k) (show k < nP κ by omega)) (jd_rv hl9_ 15 rfl rfl) rfl q1584 q325 q2001 q83 q327 nJ2_get dX4_stepOut_79 rfl rfl rfl (Nat.le_of_ble_eq_true rfl) ⟨(Nat.le_of_ble_eq_true rfl), (Nat.le_of_ble_eq_true rfl)⟩ ?_
          refine jd_castS (jd_rv ((w_mpart hw2) k (show k < nP κ by omega)) 13 rfl rfl) (ci := 13) rfl q1638 dX4_stepOut_82 ?_
          refine jd_getN in_X12 ((w_mpart hw2) k (show k < nP κ by omega)) 4 q1649 dX4_stepOut_85 rfl (Nat.le_of_ble_eq_true rfl) rfl ?_
          refine jd_iload_n dX4_stepOut_88 rfl ?_
          refine jd_ncmp_ne (a := (pAt (k_wk (ll_sn (k_lie (ll_sq κ g ((gQue κ g).eraseIdx p)) s) 3 s 2) s k) k)) (b := s) (tgt := 110) dX4_stepOut_89 (by decide) (by omega) (by omega) (fun z14 => ?_) (fun z15 => ?_)
          · refine jd_iincN (n := 1) (ls' := [_, _, _, _, _, _]) dX4_stepOut_110 rfl (Nat.le_of_ble_eq_true rfl) rfl rfl ?_
            refine jd_goto (tgt := 56) dX4_stepOut_113 (by decide) ?_
            have hw3 : WM G γ (k_wk (ll_sn (k_lie (ll_sq κ g ((gQue κ g).eraseIdx p)) s) 3 s 2) s (k + 1)) μ hh := by rw [← wk_no (fun w => z14 ((at_headW (by omega)).mpr w))]; exact hw2
            refine jd_lsub [some (.ref (γ 0 0)), some (.int (nI s)), some (.int (2)), some (.ref (γ 5 s)), some (.ref (γ 2 g)), some (.int (nI (k + 1)))] ⟨rfl, rfl, rfl, rfl, rfl, rfl, trivial⟩ ?_
            exact ih56 (k + 1) (by omega) hh hw3 (fun j hj => (hf2 j hj))
          · have hhd := (at_headW (by omega)).mp z15
            refine jd_aload_n dX4_stepOut_92 rfl ?_
            refine jd_get in_X4 (w_mthis hw2) 9 q1475 dX4_stepOut_93 rfl (Nat.le_of_ble_eq_true rfl) rfl ?_
            refine jd_iload dX4_stepOut_96 rfl ?_
            refine jd_pV (As := [.int (nI k)]) (rest := []) (ct_J2_get hl9_ (show nP κ ≤ 900 by omega) (k := k) (show k < nP κ by omega)) (jd_rv hl9_ 15 rfl rfl) rfl q1584 q325 q2001 q83 q327 nJ2_get dX4_stepOut_98 rfl rfl rfl (Nat.le_of_ble_eq_true rfl) ⟨(Nat.le_of_ble_eq_true rfl), (Nat.le_of_ble_eq_true rfl)⟩ ?_
            refine jd_castS (jd_rv ((w_mpart hw2) k (show k < nP κ by omega)) 13 rfl rfl) (ci := 13) rfl q1638 dX4_stepOut_101 ?_
            refine jd_sipush (v := 999) dX4_stepOut_104 (by decide) ?_
            refine jd_putN (fs' := [_, _, _, _, _, _]) in_X12 tyX12_ok nmX12 ((w_mpart hw2) k (show k < nP κ by omega)) 4 q1649 dX4_stepOut_107 rfl (Nat.le_of_ble_eq_true rfl) rfl rfl rfl (Nat.le_of_ble_eq_true rfl) rfl ?_
            refine jd_updG (fun h16 hs16 ho16 => ?_)
            have hw16 := m_atG hw2 (k := k) (show k < nP κ by omega)  (by rw [wkS]; exact (hst k (by omega) s (wkH hhd)).1) hs16 ho16
            refine jd_iincN (n := 1) (ls' := [_, _, _, _, _, _]) dX4_stepOut_110 rfl (Nat.le_of_ble_eq_true rfl) rfl rfl ?_
            refine jd_goto (tgt := 56) dX4_stepOut_113 (by decide) ?_
            have hw3 : WM G γ (k_wk (ll_sn (k_lie (ll_sq κ g ((gQue κ g).eraseIdx p)) s) 3 s 2) s (k + 1)) μ h16 := by rw [← wk_y hhd]; exact hw16
            refine jd_lsub [some (.ref (γ 0 0)), some (.int (nI s)), some (.int (2)), some (.ref (γ 5 s)), some (.ref (γ 2 g)), some (.int (nI (k + 1)))] ⟨rfl, rfl, rfl, rfl, rfl, rfl, trivial⟩ ?_
            exact ih56 (k + 1) (by omega) h16 hw3 (fun j hj => ((ho16 j (ll_nel (by decide) hj)).trans (hf2 j hj)))
  refine jd_lsub [some (.ref (γ 0 0)), some (.int (nI s)), some (.int (2)), some (.ref (γ 5 s)), some (.ref (γ 2 g)), some (.int (nI 0))] ⟨rfl, rfl, rfl, rfl, rfl, rfl, trivial⟩ ?_
  exact lp56_5 (nP κ) 0 (by omega) h4 (by rw [wk0]; exact hwL) (fun j hj => ((ho4 j (ll_nel (by decide) hj)).trans ((ho3 j (ll_nel (by decide) hj)).trans (ho1 j (ll_nel (by decide) hj)))))
