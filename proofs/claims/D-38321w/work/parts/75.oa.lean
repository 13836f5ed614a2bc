/-! the law: the loop, the start (printed by mk_c.py) -/
set_option maxRecDepth 20000 in
set_option maxHeartbeats 2000000 in
theorem law_loop {G : jd_G} {o ax am : Nat} (hL : jd_k G 7 ≤ 320) : ∀ (j k : Nat), k + j = 65 → ∀ (β γ : ll_B) (κ : ll_K) (μ : ll_U) (h : jd_H) (n : Int64) (sv : Value), β 0 0 = ax → γ 0 0 = am → WC G β κ h → WM G γ κ μ h → ll_I κ → WO o n sv h → jd_W G mL_law 20 (2000 * j) (100000 * j) 27 [some (.ref (jd_k G 6)), some (.ref ax), some (.ref am), some (.ref o), some (.int (nI (5 * k))), none, none] [] h (fun (r : Option Value) (_ : jd_H) => r = some (.int 1)) jd_no := by
  intro j
  induction j with
  | zero =>
    intro k hk0 β γ κ μ h n sv hb hg hw hm hI ho
    subst hb
    subst hg
    refine jd_iload dL_law_27 rfl ?_
    refine jd_aload_n dL_law_29 rfl ?_
    refine jd_slen dL_law_30 ?_
    refine jd_iconst (v := 5) dL_law_31 (by decide) ?_
    refine jd_isub dL_law_32 ?_
    refine jd_icmp_gt (tgt := 1984) dL_law_33 (by decide) (fun z1 => ?_) (fun z2 => ?_)
    · refine jd_iconst (v := 1) dL_law_1984 (by decide) ?_
      exact jd_zret dL_law_1985 rfl (Or.inr rfl) rfl
    · exact absurd (i_scr hL (by omega) z2) (by omega)
  | succ j ih =>
    intro k hk0 β γ κ μ h n sv hb hg hw hm hI ho
    subst hb
    subst hg
    refine jd_iload dL_law_27 rfl ?_
    refine jd_aload_n dL_law_29 rfl ?_
    refine jd_slen dL_law_30 ?_
    refine jd_iconst (v := 5) dL_law_31 (by decide) ?_
    refine jd_isub dL_law_32 ?_
    refine jd_icmp_gt (tgt := 1984) dL_law_33 (by decide) (fun z1 => ?_) (fun z2 => ?_)
    · refine jd_iconst (v := 1) dL_law_1984 (by decide) ?_
      exact jd_zret dL_law_1985 rfl (Or.inr rfl) rfl
    · have hk := i_scr hL (by omega) z2
      have kk : law_k G β γ o k (2000 * j) (100000 * j) (fun (r : Option Value) (_ : jd_H) => r = some (.int 1)) jd_no := by
        intro β' γ' κ' μ' h' n' sv' a1 a2 a3 a4 a5 a6
        refine jd_iincN (n := 5) (ls' := [_, _, _, _, _, _, _]) dL_law_1978 rfl (Nat.le_of_ble_eq_true rfl) rfl rfl ?_
        refine jd_goto (tgt := 27) dL_law_1981 (by decide) ?_
        refine jd_lsub [some (.ref (jd_k G 6)), some (.ref (β 0 0)), some (.ref (γ 0 0)), some (.ref o), some (.int (nI (5 * (k + 1)))), none, none] ⟨rfl, rfl, rfl, rfl, (congrArg (fun x => some (Value.int (nI x))) (by omega)), trivial⟩ ?_
        exact ih (k + 1) (by omega) β' γ' κ' μ' h' n' sv' a1 a2 a3 a4 a5 a6
      refine jd_aload_n dL_law_36 rfl ?_
      refine jd_iload dL_law_37 rfl ?_
      refine jd_sld (n := 5 * k) (by omega) hL dL_law_39 ?_
      refine jd_bipush (v := 31) dL_law_40 (by decide) ?_
      refine jd_iand dL_law_42 ?_
      obtain ⟨w, hw32, ew⟩ := i_and31 (jd_scr G (5 * k))
      refine jd_top (w := .int (nI w)) (congrArg Value.int ew) ?_
      refine jd_wk (cb' := 2000 * j + 2000) (sb' := 100000 * j + 100000) ?_ (by omega) (by omega)
      rcases (by omega : w = 0 ∨ w = 1 ∨ w = 2 ∨ w = 3 ∨ w = 4 ∨ w = 5 ∨ w = 6 ∨ w = 7 ∨ w = 8 ∨ w = 9 ∨ w = 10 ∨ w = 11 ∨ w = 12 ∨ w = 13 ∨ w = 14 ∨ w = 15 ∨ w = 16 ∨ w = 17 ∨ w = 18 ∨ w = 19 ∨ w = 20 ∨ w = 21 ∨ w = 22 ∨ w = 23 ∨ w = 24 ∨ w = 25 ∨ w = 26 ∨ w = 27 ∨ w = 28 ∨ w = 29 ∨ w = 30 ∨ w = 31) with ec | ec | ec | ec | ec | ec | ec | ec | ec | ec | ec | ec | ec | ec | ec | ec | ec | ec | ec | ec | ec | ec | ec | ec | ec | ec | ec | ec | ec | ec | ec | ec
      · refine jd_tabN (w := w) (j := 0) (off := 121) (tgt := 164) dL_law_43 ec (by decide) (by decide) (by decide) rfl (by decide) ?_
        exact law_0 hw hm hI ho hk hL kk
      · refine jd_tabN (w := w) (j := 1) (off := 202) (tgt := 245) dL_law_43 ec (by decide) (by decide) (by decide) rfl (by decide) ?_
        exact law_1 hw hm hI ho hk hL kk
      · refine jd_tabN (w := w) (j := 2) (off := 283) (tgt := 326) dL_law_43 ec (by decide) (by decide) (by decide) rfl (by decide) ?_
        exact law_2 hw hm hI ho hk hL kk
      · refine jd_tabN (w := w) (j := 3) (off := 376) (tgt := 419) dL_law_43 ec (by decide) (by decide) (by decide) rfl (by decide) ?_
        exact law_3 hw hm hI ho hk hL kk
      · refine jd_tabN (w := w) (j := 4) (off := 445) (tgt := 488) dL_law_43 ec (by decide) (by decide) (by decide) rfl (by decide) ?_
        exact law_4 hw hm hI ho hk hL kk
      · refine jd_tabN (w := w) (j := 5) (off := 502) (tgt := 545) dL_law_43 ec (by decide) (by decide) (by decide) rfl (by decide) ?_
        exact law_5 hw hm hI ho hk hL kk
      · refine jd_tabN (w := w) (j := 6) (off := 599) (tgt := 642) dL_law_43 ec (by decide) (by decide) (by decide) rfl (by decide) ?_
        exact law_6 hw hm hI ho hk hL kk
      · refine jd_tabN (w := w) (j := 7) (off := 692) (tgt := 735) dL_law_43 ec (by decide) (by decide) (by decide) rfl (by decide) ?_
        exact law_7 hw hm hI ho hk hL kk
      · refine jd_tabN (w := w) (j := 8) (off := 761) (tgt := 804) dL_law_43 ec (by decide) (by decide) (by decide) rfl (by decide) ?_
        exact law_8 hw hm hI ho hk hL kk
      · refine jd_tabN (w := w) (j := 9) (off := 854) (tgt := 897) dL_law_43 ec (by decide) (by decide) (by decide) rfl (by decide) ?_
        exact law_9 hw hm hI ho hk hL kk
      · refine jd_tabN (w := w) (j := 10) (off := 930) (tgt := 973) dL_law_43 ec (by decide) (by decide) (by decide) rfl (by decide) ?_
        exact law_10 hw hm hI ho hk hL kk
      · refine jd_tabN (w := w) (j := 11) (off := 1011) (tgt := 1054) dL_law_43 ec (by decide) (by decide) (by decide) rfl (by decide) ?_
        exact law_11 hw hm hI ho hk hL kk
      · refine jd_tabN (w := w) (j := 12) (off := 1068) (tgt := 1111) dL_law_43 ec (by decide) (by decide) (by decide) rfl (by decide) ?_
        exact law_12 hw hm hI ho hk hL kk
      · refine jd_tabN (w := w) (j := 13) (off := 1125) (tgt := 1168) dL_law_43 ec (by decide) (by decide) (by decide) rfl (by decide) ?_
        exact law_13 hw hm hI ho hk hL kk
      · refine jd_tabN (w := w) (j := 14) (off := 1189) (tgt := 1232) dL_law_43 ec (by decide) (by decide) (by decide) rfl (by decide) ?_
        exact law_14 hw hm hI ho hk hL kk
      · refine jd_tabN (w := w) (j := 15) (off := 1246) (tgt := 1289) dL_law_43 ec (by decide) (by decide) (by decide) rfl (by decide) ?_
        exact law_15 hw hm hI ho hk hL kk
      · refine jd_tabN (w := w) (j := 16) (off := 1315) (tgt := 1358) dL_law_43 ec (by decide) (by decide) (by decide) rfl (by decide) ?_
        exact law_16 hw hm hI ho hk hL kk
      · refine jd_tabN (w := w) (j := 17) (off := 1384) (tgt := 1427) dL_law_43 ec (by decide) (by decide) (by decide) rfl (by decide) ?_
        exact law_17 hw hm hI ho hk hL kk
      · refine jd_tabN (w := w) (j := 18) (off := 1453) (tgt := 1496) dL_law_43 ec (by decide) (by decide) (by decide) rfl (by decide) ?_
        exact law_18 hw hm hI ho hk hL kk
      · refine jd_tabN (w := w) (j := 19) (off := 1522) (tgt := 1565) dL_law_43 ec (by decide) (by decide) (by decide) rfl (by decide) ?_
        exact law_19 hw hm hI ho hk hL kk
      · refine jd_tabN (w := w) (j := 20) (off := 1598) (tgt := 1641) dL_law_43 ec (by decide) (by decide) (by decide) rfl (by decide) ?_
        exact law_20 hw hm hI ho hk hL kk
      · refine jd_tabN (w := w) (j := 21) (off := 1656) (tgt := 1699) dL_law_43 ec (by decide) (by decide) (by decide) rfl (by decide) ?_
        exact law_21 hw hm hI ho hk hL kk
      · refine jd_tabN (w := w) (j := 22) (off := 1713) (tgt := 1756) dL_law_43 ec (by decide) (by decide) (by decide) rfl (by decide) ?_
        exact law_22 hw hm hI ho hk hL kk
      · refine jd_tabN (w := w) (j := 23) (off := 1782) (tgt := 1825) dL_law_43 ec (by decide) (by decide) (by decide) rfl (by decide) ?_
        exact law_23 hw hm hI ho hk hL kk
      · refine jd_tabN (w := w) (j := 24) (off := 1851) (tgt := 1894) dL_law_43 ec (by decide) (by decide) (by decide) rfl (by decide) ?_
        exact law_24 hw hm hI ho hk hL kk
      · refine jd_tabN (w := w) (j := 25) (off := 1908) (tgt := 1951) dL_law_43 ec (by decide) (by decide) (by decide) rfl (by decide) ?_
        exact law_25 hw hm hI ho hk hL kk
      · refine jd_tabN (w := w) (j := 26) (off := 1921) (tgt := 1964) dL_law_43 ec (by decide) (by decide) (by decide) rfl (by decide) ?_
        exact law_26 hw hm hI ho hk hL kk
      · refine jd_tabD (w := w) (j := 27) (tgt := 1978) dL_law_43 ec (by decide) (by decide) (by decide) ?_
        exact jd_wk (kk β γ κ μ h n sv rfl rfl hw hm hI ho) (by omega) (by omega)
      · refine jd_tabD (w := w) (j := 28) (tgt := 1978) dL_law_43 ec (by decide) (by decide) (by decide) ?_
        exact jd_wk (kk β γ κ μ h n sv rfl rfl hw hm hI ho) (by omega) (by omega)
      · refine jd_tabD (w := w) (j := 29) (tgt := 1978) dL_law_43 ec (by decide) (by decide) (by decide) ?_
        exact jd_wk (kk β γ κ μ h n sv rfl rfl hw hm hI ho) (by omega) (by omega)
      · refine jd_tabD (w := w) (j := 30) (tgt := 1978) dL_law_43 ec (by decide) (by decide) (by decide) ?_
        exact jd_wk (kk β γ κ μ h n sv rfl rfl hw hm hI ho) (by omega) (by omega)
      · refine jd_tabD (w := w) (j := 31) (tgt := 1978) dL_law_43 ec (by decide) (by decide) (by decide) ?_
        exact jd_wk (kk β γ κ μ h n sv rfl rfl hw hm hI ho) (by omega) (by omega)

set_option maxRecDepth 20000 in
set_option maxHeartbeats 2000000 in
theorem ct_X6_init {G : jd_G} {h : jd_H} {a : Nat} : jd_Ct G mX6_init 1 (0) (0) [.ref (a)] h (jd_vd h) jd_no := by
  refine jd_ct (ls := [some (.ref (a))]) rfl rfl (by decide) (Nat.le_of_ble_eq_true rfl) rfl ?_
  refine jd_aload_n dX6_init_0 rfl ?_
  refine jd_oinit q597 q130 q131 dX6_init_1 (Nat.le_of_ble_eq_true rfl) ?_ (Nat.le_of_ble_eq_true rfl)
  exact jd_vret dX6_init_4 rfl ⟨rfl, rfl⟩

set_option maxRecDepth 20000 in
set_option maxHeartbeats 2000000 in
theorem law_start {G : jd_G} (hL : jd_k G 7 ≤ 320) : jd_W G mL_law 20 (601152) (7252714) 0 [some (.ref (jd_k G 6)), none, none, none, none, none, none] [] (fun _ => none) (fun (r : Option Value) (_ : jd_H) => r = some (.int 1)) jd_no := by
  refine jd_new (fs := [.null, .null, .null, .null, .null, .null, .int (0), .int (0), .int (0)]) in_X1 tyX1_ok q124 q125 q80 dL_law_0 0 rfl rfl (by omega) (by omega) (fun ax hax => ?_)
  refine jd_dup dL_law_3 rfl ?_
  refine jd_callI (As := []) (rest := [.ref (ax)]) (ct_X1_init jd_up_s) rfl rfl q126 q127 q80 q128 nX1_init dL_law_4 rfl rfl (Nat.le_of_ble_eq_true rfl) ⟨(Nat.le_of_ble_eq_true rfl), (Nat.le_of_ble_eq_true rfl), by omega, by omega⟩ (fun rv0 hn0 hq0 => ?_) jd_nox
  obtain ⟨rfl, β, hb, hw, hf⟩ := hq0
  refine jd_astore_n (ls' := [_, _, _, _, _, _, _]) dL_law_7 (Nat.le_of_ble_eq_true rfl) rfl rfl ?_
  refine jd_new (fs := [.int (0), .int (0), .int (0), .int (0), .int (0), .int (0), .null, .null, .null, .null, .null, .null, .long (0)]) in_X4 tyX4_ok q1429 q1430 q90 dL_law_8 9 rfl rfl (by omega) (by omega) (fun am ham => ?_)
  refine jd_dup dL_law_11 rfl ?_
  refine jd_callI (As := []) (rest := [.ref (am)]) (ct_X4_init jd_up_s) rfl rfl q1431 q1432 q90 q1433 nX4_init dL_law_12 rfl rfl (Nat.le_of_ble_eq_true rfl) ⟨(Nat.le_of_ble_eq_true rfl), (Nat.le_of_ble_eq_true rfl), by omega, by omega⟩ (fun rv1 hn1 hq1 => ?_) jd_nox
  obtain ⟨rfl, γ, μ, hg, hm, hf2⟩ := hq1
  have hw2 := hw.of0 (fun j hj => (hf2 j (Or.inl hj)).trans (jd_up_n (ll_ne0 (Or.inl hj))))
  have h40 : hn1 (40, 0) = none := (hf2 (40, 0) (Or.inr (by decide))).trans ((jd_up_n (ll_ne0 (Or.inr (by decide)))).trans ((hf (40, 0) (by decide)).trans (jd_up_n (ll_nek (L := 20) (by decide) (by decide)))))
  refine jd_astore_n (ls' := [_, _, _, _, _, _, _]) dL_law_15 (Nat.le_of_ble_eq_true rfl) rfl rfl ?_
  refine jd_new (fs := [.long (0), .null]) in_X6 tyX6_ok q592 q593 q92 dL_law_16 14 rfl rfl (by omega) (by omega) (fun o ho => ?_)
  refine jd_dup dL_law_19 rfl ?_
  refine jd_callN (As := []) (rest := [.ref (o)]) (ct_X6_init (a := o)) rfl rfl q594 q595 q92 q596 nX6_init dL_law_20 rfl rfl (Nat.le_of_ble_eq_true rfl) ⟨(Nat.le_of_ble_eq_true rfl), (Nat.le_of_ble_eq_true rfl), by omega, by omega⟩ (fun rv2 hn2 hq2 => ?_) jd_nox
  obtain ⟨rfl, he2⟩ := hq2
  rw [he2]
  refine jd_ren (i := (0, o)) (j := (40, 0)) jd_up_s ((jd_up_n (by intro z; cases z)).trans h40) (by decide) ?_
  refine jd_gen (fun h5 => WC G β k_0 h5 ∧ WM G γ k_0 μ h5 ∧ WO o 0 .null h5) ⟨hw2.of0 (fun j hj => ?_), hm.out (fun j a b => ?_), jd_up_s⟩ (fun h5 hh => ?_)
  · exact (jd_up_n (fun z => by rw [z] at hj; exact absurd hj.2 (by decide))).trans ((jd_rm_n (ll_ne0 (Or.inl hj))).trans (jd_up_n (ll_ne0 (Or.inl hj))))
  · exact (jd_up_n (fun z => by rw [z] at b; exact absurd b (by decide))).trans ((jd_rm_n (ll_nek (by decide) a)).trans (jd_up_n (ll_nek (by decide) a)))
  obtain ⟨hw5, hm5, ho5⟩ := hh
  refine jd_astore_n (ls' := [_, _, _, _, _, _, _]) dL_law_23 (Nat.le_of_ble_eq_true rfl) rfl rfl ?_
  refine jd_iconst (v := 0) dL_law_24 (by decide) ?_
  refine jd_istore (ls' := [_, _, _, _, _, _, _]) dL_law_25 (Nat.le_of_ble_eq_true rfl) rfl rfl ?_
  refine jd_lsub [some (.ref (jd_k G 6)), some (.ref (ax)), some (.ref (am)), some (.ref (o)), some (.int (nI (5 * 0))), none, none] ⟨rfl, rfl, rfl, rfl, rfl, trivial⟩ ?_
  refine jd_wk (cb' := 2000 * 65) (sb' := 100000 * 65) ?_ (by omega) (by omega)
  exact law_loop hL 65 0 rfl β γ k_0 μ h5 0 .null hb hg hw5 hm5 I_0 ho5
