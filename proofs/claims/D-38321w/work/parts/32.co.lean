/-! the component: acts (printed by mk_c.py) -/
set_option maxRecDepth 20000 in
set_option maxHeartbeats 2000000 in
theorem ct_X1_land {G : jd_G} {β : ll_B} {κ : ll_K} {h : jd_H} (hw : WC G β κ h) (hI : ll_I κ) (l : Int32) (r : Int32) (a : Int32) : jd_Ct G mX1_land 12 (4) (24) [.ref (β 0 0), .int (l), .int (r), .int (a)] h (jd_op G β h (c_land l r a) (.int (lRate κ (tN l))) (k_land κ (tN l) r a)) (jd_th h (c_land l r a) nmA) := by
  obtain ⟨⟨hG8, hS12, hP24, hH40, hN99, hH24⟩, hIg, hIs, hIp, hIh, hIl, hIq⟩ := id hI
  obtain ⟨mcL, hlL⟩ := w_lands hw
  obtain ⟨mcG, hlG⟩ := w_gates hw
  obtain ⟨mcS, hlS⟩ := w_sleepers hw
  obtain ⟨mcP, hlP⟩ := w_parts hw
  obtain ⟨mcH, hlH⟩ := w_hidings hw
  refine jd_ct (ls := [some (.ref (β 0 0)), some (.int (l)), some (.int (r)), some (.int (a)), none, none]) rfl rfl (by decide) (Nat.le_of_ble_eq_true rfl) rfl ?_
  refine jd_aload_n dX1_land_0 rfl ?_
  refine jd_iload_n dX1_land_1 rfl ?_
  refine jd_callV (As := [.int (l)]) (rest := []) (ct_X1_landAt hw hI (l)) (jd_rv ((w_this hw)) 0 rfl rfl) rfl q690 q692 qs35 q80 q693 nX1_landAt dX1_land_2 rfl rfl rfl (Nat.le_of_ble_eq_true rfl) ⟨(Nat.le_of_ble_eq_true rfl), (Nat.le_of_ble_eq_true rfl), by omega, by omega⟩ (fun rv0 hn0 hq0 => ?_) (fun E h2 hx => by obtain ⟨h3, h4, h5⟩ := hx; subst h5; have hx : ¬ _ ∧ True := ⟨h3, trivial⟩; exact jd_xout rfl (jd_th.mk (k := 1) (by unfold c_land; rw [if_neg hx.1]) (by decide) h4))
  obtain ⟨hb0, k_l, hk_l, rfl, rfl, he0⟩ := hq0
  rw [he0]
  have hT_l := tN_nI (show k_l < 2 ^ 31 by omega)
  refine jd_astore (ls' := [_, _, _, _, _, _]) dX1_land_5 (Nat.le_of_ble_eq_true rfl) rfl rfl ?_
  refine jd_iload_n dX1_land_7 rfl ?_
  refine jd_iconst (v := 0) dX1_land_8 (by decide) ?_
  refine jd_bipush (v := 50) dX1_land_9 (by decide) ?_
  refine jd_callS (As := [.int (r), .int (0), .int (50)]) (rest := []) (ct_X1_mustBeIn (r) (0) (50)) rfl q718 q719 q80 q720 nX1_mustBeIn dX1_land_11 rfl rfl (Nat.le_of_ble_eq_true rfl) ⟨(Nat.le_of_ble_eq_true rfl), (Nat.le_of_ble_eq_true rfl), by omega, by omega⟩ (fun rv1 hn1 hq1 => ?_) (fun E h2 hx => by obtain ⟨h3, h4, h5⟩ := hx; subst h5; have hx : ¬ _ ∧ True := ⟨h3, trivial⟩; exact jd_xout rfl (jd_th.mk (k := 2) (by unfold c_land; (try simp only [hT_l]); rw [if_pos hb0, if_neg hx.1]) (by decide) h4))
  obtain ⟨hb1, rfl, he1⟩ := hq1
  rw [he1]
  refine jd_iload_n dX1_land_14 rfl ?_
  refine jd_iconst (v := 0) dX1_land_15 (by decide) ?_
  refine jd_bipush (v := 99) dX1_land_16 (by decide) ?_
  refine jd_callS (As := [.int (a), .int (0), .int (99)]) (rest := []) (ct_X1_mustBeIn (a) (0) (99)) rfl q718 q719 q80 q720 nX1_mustBeIn dX1_land_18 rfl rfl (Nat.le_of_ble_eq_true rfl) ⟨(Nat.le_of_ble_eq_true rfl), (Nat.le_of_ble_eq_true rfl), by omega, by omega⟩ (fun rv2 hn2 hq2 => ?_) (fun E h2 hx => by obtain ⟨h3, h4, h5⟩ := hx; subst h5; have hx : ¬ _ ∧ True := ⟨h3, trivial⟩; exact jd_xout rfl (jd_th.mk (k := 2) (by unfold c_land; (try simp only [hT_l]); rw [if_pos hb0, if_pos hb1, if_neg hx.1]) (by decide) h4))
  obtain ⟨hb2, rfl, he2⟩ := hq2
  rw [he2]
  refine jd_aload dX1_land_21 rfl ?_
  refine jd_getN in_X3 (((w_land hw)) k_l (show k_l < 6 by omega)) 0 q182 dX1_land_23 rfl (Nat.le_of_ble_eq_true rfl) rfl ?_
  refine jd_istore (ls' := [_, _, _, _, _, _]) dX1_land_26 (Nat.le_of_ble_eq_true rfl) rfl rfl ?_
  refine jd_aload dX1_land_28 rfl ?_
  refine jd_iload_n dX1_land_30 rfl ?_
  refine jd_putN (fs' := [_, _, _, _, _, _]) in_X3 tyX3_ok nmX3 (((w_land hw)) k_l (show k_l < 6 by omega)) 0 q182 dX1_land_31 rfl (Nat.le_of_ble_eq_true rfl) rfl rfl rfl (Nat.le_of_ble_eq_true rfl) rfl ?_
  refine jd_updG (fun h4 hs4 ho4 => ?_)
  have hw4 := wu_lRate hw (k := k_l) (show k_l < 6 by omega) (v := r) hs4 ho4
  refine jd_aload dX1_land_34 rfl ?_
  refine jd_iload_n dX1_land_36 rfl ?_
  refine jd_putN (fs' := [_, _, _, _, _, _]) in_X3 tyX3_ok nmX3 (((w_land hw4)) k_l (show k_l < 6 by omega)) 1 q184 dX1_land_37 rfl (Nat.le_of_ble_eq_true rfl) rfl rfl rfl (Nat.le_of_ble_eq_true rfl) rfl ?_
  refine jd_updG (fun h5 hs5 ho5 => ?_)
  have hw5 := wu_lAll hw4 (k := k_l) (show k_l < 6 by omega) (v := a) hs5 ho5
  refine jd_iload dX1_land_40 rfl ?_
  exact jd_iret dX1_land_42 rfl ⟨by unfold c_land; (try simp only [hT_l]); rw [if_pos hb0, if_pos hb1, if_pos hb2], by first | rfl | (simp only [hT_l]; done) | (simp only [hT_l]; rfl), β, rfl, (by first | exact hw5 | (simp only [hT_l]; exact hw5)), (fun j hj => ((ho5 j (ll_nek (by decide) hj)).trans (ho4 j (ll_nek (by decide) hj))))⟩

set_option maxRecDepth 20000 in
set_option maxHeartbeats 2000000 in
theorem ct_X1_odds {G : jd_G} {β : ll_B} {κ : ll_K} {h : jd_H} (hw : WC G β κ h) (hI : ll_I κ) (g : Int32) (o : Int32) : jd_Ct G mX1_odds 12 (4) (24) [.ref (β 0 0), .int (g), .int (o)] h (jd_op G β h (c_odds κ g o) (.int (gOdds κ (tN g))) (ll_sz κ 9 (tN g) o)) (jd_th h (c_odds κ g o) nmA) := by
  obtain ⟨⟨hG8, hS12, hP24, hH40, hN99, hH24⟩, hIg, hIs, hIp, hIh, hIl, hIq⟩ := id hI
  obtain ⟨mcL, hlL⟩ := w_lands hw
  obtain ⟨mcG, hlG⟩ := w_gates hw
  obtain ⟨mcS, hlS⟩ := w_sleepers hw
  obtain ⟨mcP, hlP⟩ := w_parts hw
  obtain ⟨mcH, hlH⟩ := w_hidings hw
  refine jd_ct (ls := [some (.ref (β 0 0)), some (.int (g)), some (.int (o)), none, none]) rfl rfl (by decide) (Nat.le_of_ble_eq_true rfl) rfl ?_
  refine jd_aload_n dX1_odds_0 rfl ?_
  refine jd_iload_n dX1_odds_1 rfl ?_
  refine jd_callV (As := [.int (g)]) (rest := []) (ct_X1_gateAt hw hI (g)) (jd_rv ((w_this hw)) 0 rfl rfl) rfl q818 q820 qs36 q80 q821 nX1_gateAt dX1_odds_2 rfl rfl rfl (Nat.le_of_ble_eq_true rfl) ⟨(Nat.le_of_ble_eq_true rfl), (Nat.le_of_ble_eq_true rfl), by omega, by omega⟩ (fun rv0 hn0 hq0 => ?_) (fun E h2 hx => by obtain ⟨h3, h4, h5⟩ := hx; subst h5; have hx : ¬ _ ∧ True := ⟨h3, trivial⟩; exact jd_xout rfl (jd_th.mk (k := 1) (by unfold c_odds; rw [if_neg hx.1]) (by decide) h4))
  obtain ⟨hb0, k_g, hk_g, rfl, rfl, he0⟩ := hq0
  rw [he0]
  have hT_g := tN_nI (show k_g < 2 ^ 31 by omega)
  refine jd_astore_n (ls' := [_, _, _, _, _]) dX1_odds_5 (Nat.le_of_ble_eq_true rfl) rfl rfl ?_
  refine jd_iload_n dX1_odds_6 rfl ?_
  refine jd_iconst (v := 0) dX1_odds_7 (by decide) ?_
  refine jd_bipush (v := 10) dX1_odds_8 (by decide) ?_
  refine jd_callS (As := [.int (o), .int (0), .int (10)]) (rest := []) (ct_X1_mustBeIn (o) (0) (10)) rfl q718 q719 q80 q720 nX1_mustBeIn dX1_odds_10 rfl rfl (Nat.le_of_ble_eq_true rfl) ⟨(Nat.le_of_ble_eq_true rfl), (Nat.le_of_ble_eq_true rfl), by omega, by omega⟩ (fun rv1 hn1 hq1 => ?_) (fun E h2 hx => by obtain ⟨h3, h4, h5⟩ := hx; subst h5; have hx : ¬ _ ∧ True := ⟨h3, trivial⟩; exact jd_xout rfl (jd_th.mk (k := 2) (by unfold c_odds; (try simp only [hT_g]); rw [if_pos hb0, if_neg hx.1]) (by decide) h4))
  obtain ⟨hb1, rfl, he1⟩ := hq1
  rw [he1]
  refine jd_aload_n dX1_odds_13 rfl ?_
  refine jd_getN in_X7 (((w_gate hw)) k_g (show k_g < nG κ by omega)) 4 q786 dX1_odds_14 rfl (Nat.le_of_ble_eq_true rfl) rfl ?_
  refine jd_istore (ls' := [_, _, _, _, _]) dX1_odds_17 (Nat.le_of_ble_eq_true rfl) rfl rfl ?_
  refine jd_aload_n dX1_odds_19 rfl ?_
  refine jd_iload_n dX1_odds_20 rfl ?_
  refine jd_putN (fs' := [_, _, _, _, _, _, _, _]) in_X7 tyX7_ok nmX7 (((w_gate hw)) k_g (show k_g < nG κ by omega)) 4 q786 dX1_odds_21 rfl (Nat.le_of_ble_eq_true rfl) rfl rfl rfl (Nat.le_of_ble_eq_true rfl) rfl ?_
  refine jd_updG (fun h3 hs3 ho3 => ?_)
  have hw3 := wu_gOdds hw (k := k_g) (show k_g < nG κ by omega) (v := o) hs3 ho3
  refine jd_iload dX1_odds_24 rfl ?_
  exact jd_iret dX1_odds_26 rfl ⟨by unfold c_odds; (try simp only [hT_g]); rw [if_pos hb0, if_pos hb1], by first | rfl | (simp only [hT_g]; done) | (simp only [hT_g]; rfl), β, rfl, (by first | exact hw3 | (simp only [hT_g]; exact hw3)), (fun j hj => (ho3 j (ll_nek (by decide) hj)))⟩

set_option maxRecDepth 20000 in
set_option maxHeartbeats 2000000 in
theorem ct_X1_relieve {G : jd_G} {β : ll_B} {κ : ll_K} {h : jd_H} (hw : WC G β κ h) (hI : ll_I κ) (g : Int32) : jd_Ct G mX1_relieve 12 (4) (24) [.ref (β 0 0), .int (g)] h (jd_op G β h (c_gate1 κ g) (.int (gWatch κ (tN g))) (ll_sz κ 10 (tN g) 0)) (jd_th h (c_gate1 κ g) nmA) := by
  obtain ⟨⟨hG8, hS12, hP24, hH40, hN99, hH24⟩, hIg, hIs, hIp, hIh, hIl, hIq⟩ := id hI
  obtain ⟨mcL, hlL⟩ := w_lands hw
  obtain ⟨mcG, hlG⟩ := w_gates hw
  obtain ⟨mcS, hlS⟩ := w_sleepers hw
  obtain ⟨mcP, hlP⟩ := w_parts hw
  obtain ⟨mcH, hlH⟩ := w_hidings hw
  refine jd_ct (ls := [some (.ref (β 0 0)), some (.int (g)), none, none]) rfl rfl (by decide) (Nat.le_of_ble_eq_true rfl) rfl ?_
  refine jd_aload_n dX1_relieve_0 rfl ?_
  refine jd_iload_n dX1_relieve_1 rfl ?_
  refine jd_callV (As := [.int (g)]) (rest := []) (ct_X1_gateAt hw hI (g)) (jd_rv ((w_this hw)) 0 rfl rfl) rfl q818 q820 qs36 q80 q821 nX1_gateAt dX1_relieve_2 rfl rfl rfl (Nat.le_of_ble_eq_true rfl) ⟨(Nat.le_of_ble_eq_true rfl), (Nat.le_of_ble_eq_true rfl), by omega, by omega⟩ (fun rv0 hn0 hq0 => ?_) (fun E h2 hx => by obtain ⟨h3, h4, h5⟩ := hx; subst h5; have hx : ¬ _ ∧ True := ⟨h3, trivial⟩; exact jd_xout rfl (jd_th.mk (k := 1) (by unfold c_gate1; rw [if_neg hx.1]) (by decide) h4))
  obtain ⟨hb0, k_g, hk_g, rfl, rfl, he0⟩ := hq0
  rw [he0]
  have hT_g := tN_nI (show k_g < 2 ^ 31 by omega)
  refine jd_astore_n (ls' := [_, _, _, _]) dX1_relieve_5 (Nat.le_of_ble_eq_true rfl) rfl rfl ?_
  refine jd_aload_n dX1_relieve_6 rfl ?_
  refine jd_getN in_X7 (((w_gate hw)) k_g (show k_g < nG κ by omega)) 5 q788 dX1_relieve_7 rfl (Nat.le_of_ble_eq_true rfl) rfl ?_
  refine jd_istore_n (ls' := [_, _, _, _]) dX1_relieve_10 (Nat.le_of_ble_eq_true rfl) rfl rfl ?_
  refine jd_aload_n dX1_relieve_11 rfl ?_
  refine jd_iconst (v := 0) dX1_relieve_12 (by decide) ?_
  refine jd_putN (fs' := [_, _, _, _, _, _, _, _]) in_X7 tyX7_ok nmX7 (((w_gate hw)) k_g (show k_g < nG κ by omega)) 5 q788 dX1_relieve_13 rfl (Nat.le_of_ble_eq_true rfl) rfl rfl rfl (Nat.le_of_ble_eq_true rfl) rfl ?_
  refine jd_updG (fun h2 hs2 ho2 => ?_)
  have hw2 := wu_gWatch hw (k := k_g) (show k_g < nG κ by omega) (v := 0) hs2 ho2
  refine jd_iload_n dX1_relieve_16 rfl ?_
  exact jd_iret dX1_relieve_17 rfl ⟨by unfold c_gate1; (try simp only [hT_g]); rw [if_pos hb0], by first | rfl | (simp only [hT_g]; done) | (simp only [hT_g]; rfl), β, rfl, (by first | exact hw2 | (simp only [hT_g]; exact hw2)), (fun j hj => (ho2 j (ll_nek (by decide) hj)))⟩

set_option maxRecDepth 20000 in
set_option maxHeartbeats 2000000 in
theorem ct_X1_trade {G : jd_G} {β : ll_B} {κ : ll_K} {h : jd_H} (hw : WC G β κ h) (hI : ll_I κ) (f : Int32) (t : Int32) (m : Int32) : jd_Ct G mX1_trade 12 (4) (24) [.ref (β 0 0), .int (f), .int (t), .int (m)] h (jd_op G β h (c_trade κ f t m) (.int (lQuo (k_trade κ (tN f) (tN t) m) (tN t))) (k_trade κ (tN f) (tN t) m)) (jd_th h (c_trade κ f t m) nmA) := by
  obtain ⟨⟨hG8, hS12, hP24, hH40, hN99, hH24⟩, hIg, hIs, hIp, hIh, hIl, hIq⟩ := id hI
  obtain ⟨mcL, hlL⟩ := w_lands hw
  obtain ⟨mcG, hlG⟩ := w_gates hw
  obtain ⟨mcS, hlS⟩ := w_sleepers hw
  obtain ⟨mcP, hlP⟩ := w_parts hw
  obtain ⟨mcH, hlH⟩ := w_hidings hw
  refine jd_ct (ls := [some (.ref (β 0 0)), some (.int (f)), some (.int (t)), some (.int (m)), none, none]) rfl rfl (by decide) (Nat.le_of_ble_eq_true rfl) rfl ?_
  refine jd_aload_n dX1_trade_0 rfl ?_
  refine jd_iload_n dX1_trade_1 rfl ?_
  refine jd_callV (As := [.int (f)]) (rest := []) (ct_X1_landAt hw hI (f)) (jd_rv ((w_this hw)) 0 rfl rfl) rfl q690 q692 qs35 q80 q693 nX1_landAt dX1_trade_2 rfl rfl rfl (Nat.le_of_ble_eq_true rfl) ⟨(Nat.le_of_ble_eq_true rfl), (Nat.le_of_ble_eq_true rfl), by omega, by omega⟩ (fun rv0 hn0 hq0 => ?_) (fun E h2 hx => by obtain ⟨h3, h4, h5⟩ := hx; subst h5; have hx : ¬ _ ∧ True := ⟨h3, trivial⟩; exact jd_xout rfl (jd_th.mk (k := 1) (by unfold c_trade; rw [if_neg hx.1]) (by decide) h4))
  obtain ⟨hb0, k_f, hk_f, rfl, rfl, he0⟩ := hq0
  rw [he0]
  have hT_f := tN_nI (show k_f < 2 ^ 31 by omega)
  refine jd_astore (ls' := [_, _, _, _, _, _]) dX1_trade_5 (Nat.le_of_ble_eq_true rfl) rfl rfl ?_
  refine jd_aload_n dX1_trade_7 rfl ?_
  refine jd_iload_n dX1_trade_8 rfl ?_
  refine jd_callV (As := [.int (t)]) (rest := []) (ct_X1_landAt hw hI (t)) (jd_rv ((w_this hw)) 0 rfl rfl) rfl q690 q692 qs35 q80 q693 nX1_landAt dX1_trade_9 rfl rfl rfl (Nat.le_of_ble_eq_true rfl) ⟨(Nat.le_of_ble_eq_true rfl), (Nat.le_of_ble_eq_true rfl), by omega, by omega⟩ (fun rv1 hn1 hq1 => ?_) (fun E h2 hx => by obtain ⟨h3, h4, h5⟩ := hx; subst h5; have hx : ¬ _ ∧ True := ⟨h3, trivial⟩; exact jd_xout rfl (jd_th.mk (k := 1) (by unfold c_trade; (try simp only [hT_f]); rw [if_pos hb0, if_neg hx.1]) (by decide) h4))
  obtain ⟨hb1, k_t, hk_t, rfl, rfl, he1⟩ := hq1
  rw [he1]
  have hT_t := tN_nI (show k_t < 2 ^ 31 by omega)
  refine jd_astore (ls' := [_, _, _, _, _, _]) dX1_trade_12 (Nat.le_of_ble_eq_true rfl) rfl rfl ?_
  refine jd_iload_n dX1_trade_14 rfl ?_
  refine jd_iload_n dX1_trade_15 rfl ?_
  refine jd_mg2 28 (.int (jd_b ((¬ (k_f = k_t) ∧ (¬ (m < 0)))))) (fun hj3 => ?_) ?_
  · refine jd_ncmp_eq (a := k_f) (b := k_t) (tgt := 27) dX1_trade_16 (by decide) (by omega) (by omega) (fun z4 => ?_) (fun z5 => ?_)
    · refine jd_iconst (v := 0) dX1_trade_27 (by decide) ?_
      exact jd_top (congrArg Value.int (jd_b0 (fun w => w.1 z4)).symm) hj3
    · refine jd_iload_n dX1_trade_19 rfl ?_
      refine jd_if_lt (tgt := 27) dX1_trade_20 (by decide) (fun z6 => ?_) (fun z7 => ?_)
      · refine jd_iconst (v := 0) dX1_trade_27 (by decide) ?_
        exact jd_top (congrArg Value.int (jd_b0 (fun w => (fun w => w z6) w.2)).symm) hj3
      · refine jd_iconst (v := 1) dX1_trade_23 (by decide) ?_
        refine jd_goto (tgt := 28) dX1_trade_24 (by decide) ?_
        exact jd_top (congrArg Value.int (jd_b1 ⟨z5, z7⟩).symm) hj3
  · refine jd_callS (As := [.int (jd_b ((¬ (k_f = k_t) ∧ (¬ (m < 0)))))]) (rest := []) (ct_X1_must ((¬ (k_f = k_t) ∧ (¬ (m < 0))))) rfl q721 q722 q80 q723 nX1_must dX1_trade_28 rfl rfl (Nat.le_of_ble_eq_true rfl) ⟨(Nat.le_of_ble_eq_true rfl), (Nat.le_of_ble_eq_true rfl), by omega, by omega⟩ (fun rv7 hn7 hq7 => ?_) (fun E h2 hx => by obtain ⟨h3, h4, h5⟩ := hx; subst h5; have hx : ¬ _ ∧ True := ⟨h3, trivial⟩; exact jd_xout rfl (jd_th.mk (k := 2) (by unfold c_trade; (try simp only [hT_f, hT_t]); rw [if_pos hb0, if_pos hb1, if_neg hx.1]) (by decide) h4))
    obtain ⟨hb7, rfl, he7⟩ := hq7
    rw [he7]
    refine jd_aload dX1_trade_31 rfl ?_
    refine jd_getN in_X3 (((w_land hw)) k_f (show k_f < 6 by omega)) 2 q186 dX1_trade_33 rfl (Nat.le_of_ble_eq_true rfl) rfl ?_
    refine jd_iload_n dX1_trade_36 rfl ?_
    refine jd_mg2 57 (.int (jd_b ((¬ ((lQuo κ k_f) < m) ∧ (¬ (30 < ((lQuo κ k_t) + m))))))) (fun hj9 => ?_) ?_
    · refine jd_icmp_lt (tgt := 56) dX1_trade_37 (by decide) (fun z10 => ?_) (fun z11 => ?_)
      · refine jd_iconst (v := 0) dX1_trade_56 (by decide) ?_
        exact jd_top (congrArg Value.int (jd_b0 (fun w => w.1 z10)).symm) hj9
      · refine jd_aload dX1_trade_40 rfl ?_
        refine jd_getN in_X3 (((w_land hw)) k_t (show k_t < 6 by omega)) 2 q186 dX1_trade_42 rfl (Nat.le_of_ble_eq_true rfl) rfl ?_
        refine jd_iload_n dX1_trade_45 rfl ?_
        refine jd_iadd dX1_trade_46 ?_
        refine jd_bipush (v := 30) dX1_trade_47 (by decide) ?_
        refine jd_icmp_gt (tgt := 56) dX1_trade_49 (by decide) (fun z12 => ?_) (fun z13 => ?_)
        · refine jd_iconst (v := 0) dX1_trade_56 (by decide) ?_
          exact jd_top (congrArg Value.int (jd_b0 (fun w => (fun w => w z12) w.2)).symm) hj9
        · refine jd_iconst (v := 1) dX1_trade_52 (by decide) ?_
          refine jd_goto (tgt := 57) dX1_trade_53 (by decide) ?_
          exact jd_top (congrArg Value.int (jd_b1 ⟨z11, z13⟩).symm) hj9
    · refine jd_callS (As := [.int (jd_b ((¬ ((lQuo κ k_f) < m) ∧ (¬ (30 < ((lQuo κ k_t) + m))))))]) (rest := []) (ct_X1_checkState ((¬ ((lQuo κ k_f) < m) ∧ (¬ (30 < ((lQuo κ k_t) + m)))))) rfl q747 q748 q80 q749 nX1_checkState dX1_trade_57 rfl rfl (Nat.le_of_ble_eq_true rfl) ⟨(Nat.le_of_ble_eq_true rfl), (Nat.le_of_ble_eq_true rfl), by omega, by omega⟩ (fun rv13 hn13 hq13 => ?_) (fun E h2 hx => by obtain ⟨h3, h4, h5⟩ := hx; subst h5; have hx : ¬ _ ∧ True := ⟨h3, trivial⟩; exact jd_xout rfl (jd_th.mk (k := 3) (by unfold c_trade; (try simp only [hT_f, hT_t]); rw [if_pos hb0, if_pos hb1, if_pos hb7, if_neg hx.1]) (by decide) h4))
      obtain ⟨hb13, rfl, he13⟩ := hq13
      rw [he13]
      refine jd_aload dX1_trade_60 rfl ?_
      refine jd_dup dX1_trade_62 rfl ?_
      refine jd_getN in_X3 (((w_land hw)) k_f (show k_f < 6 by omega)) 2 q186 dX1_trade_63 rfl (Nat.le_of_ble_eq_true rfl) rfl ?_
      refine jd_iload_n dX1_trade_66 rfl ?_
      refine jd_isub dX1_trade_67 ?_
      refine jd_putN (fs' := [_, _, _, _, _, _]) in_X3 tyX3_ok nmX3 (((w_land hw)) k_f (show k_f < 6 by omega)) 2 q186 dX1_trade_68 rfl (Nat.le_of_ble_eq_true rfl) rfl rfl rfl (Nat.le_of_ble_eq_true rfl) rfl ?_
      refine jd_updG (fun h15 hs15 ho15 => ?_)
      have hw15 := wu_lQuo hw (k := k_f) (show k_f < 6 by omega) (v := ((lQuo κ k_f) - m)) hs15 ho15
      refine jd_aload dX1_trade_71 rfl ?_
      refine jd_dup dX1_trade_73 rfl ?_
      refine jd_getN in_X3 (((w_land hw15)) k_t (show k_t < 6 by omega)) 2 q186 dX1_trade_74 rfl (Nat.le_of_ble_eq_true rfl) rfl ?_
      refine jd_iload_n dX1_trade_77 rfl ?_
      refine jd_iadd dX1_trade_78 ?_
      refine jd_putN (fs' := [_, _, _, _, _, _]) in_X3 tyX3_ok nmX3 (((w_land hw15)) k_t (show k_t < 6 by omega)) 2 q186 dX1_trade_79 rfl (Nat.le_of_ble_eq_true rfl) rfl rfl rfl (Nat.le_of_ble_eq_true rfl) rfl ?_
      refine jd_updG (fun h16 hs16 ho16 => ?_)
      have hw16 := wu_lQuo hw15 (k := k_t) (show k_t < 6 by omega) (v := ((lQuo (ll_sz κ 2 k_f (((lQuo κ k_f) - m))) k_t) + m)) hs16 ho16
      refine jd_aload dX1_trade_82 rfl ?_
      refine jd_getN in_X3 (((w_land hw16)) k_t (show k_t < 6 by omega)) 2 q186 dX1_trade_84 rfl (Nat.le_of_ble_eq_true rfl) rfl ?_
      exact jd_iret dX1_trade_87 rfl ⟨by unfold c_trade; (try simp only [hT_f, hT_t]); rw [if_pos hb0, if_pos hb1, if_pos hb7, if_pos hb13], by first | rfl | (simp only [hT_f, hT_t]; done) | (simp only [hT_f, hT_t]; rfl), β, rfl, (by first | exact hw16 | (simp only [hT_f, hT_t]; exact hw16)), (fun j hj => ((ho16 j (ll_nek (by decide) hj)).trans (ho15 j (ll_nek (by decide) hj))))⟩

set_option maxRecDepth 20000 in
set_option maxHeartbeats 2000000 in
theorem ct_X1_give {G : jd_G} {β : ll_B} {κ : ll_K} {h : jd_H} (hw : WC G β κ h) (hI : ll_I κ) (p : Int32) (t : Int32) : jd_Ct G mX1_give 12 (4) (24) [.ref (β 0 0), .int (p), .int (t)] h (jd_op G β h (c_give κ p t) (.int (nI ((pHead κ (tN p)).getD 0))) (ll_so κ 1 (tN p) (some (tN t)))) (jd_th h (c_give κ p t) nmB) := by
  obtain ⟨⟨hG8, hS12, hP24, hH40, hN99, hH24⟩, hIg, hIs, hIp, hIh, hIl, hIq⟩ := id hI
  obtain ⟨mcL, hlL⟩ := w_lands hw
  obtain ⟨mcG, hlG⟩ := w_gates hw
  obtain ⟨mcS, hlS⟩ := w_sleepers hw
  obtain ⟨mcP, hlP⟩ := w_parts hw
  obtain ⟨mcH, hlH⟩ := w_hidings hw
  refine jd_ct (ls := [some (.ref (β 0 0)), some (.int (p)), some (.int (t)), none, none, none, none]) rfl rfl (by decide) (Nat.le_of_ble_eq_true rfl) rfl ?_
  refine jd_aload_n dX1_give_0 rfl ?_
  refine jd_iload_n dX1_give_1 rfl ?_
  refine jd_callV (As := [.int (p)]) (rest := []) (ct_X1_partAt hw hI (p)) (jd_rv ((w_this hw)) 0 rfl rfl) rfl q937 q939 qs38 q80 q940 nX1_partAt dX1_give_2 rfl rfl rfl (Nat.le_of_ble_eq_true rfl) ⟨(Nat.le_of_ble_eq_true rfl), (Nat.le_of_ble_eq_true rfl), by omega, by omega⟩ (fun rv0 hn0 hq0 => ?_) (fun E h2 hx => by obtain ⟨h3, h4, h5⟩ := hx; subst h5; have hx : ¬ _ ∧ True := ⟨h3, trivial⟩; exact jd_xout rfl (jd_th.mk (k := 1) (by unfold c_give; rw [if_neg hx.1]) (by decide) h4))
  obtain ⟨hb0, k_p, hk_p, rfl, rfl, he0⟩ := hq0
  rw [he0]
  have hT_p := tN_nI (show k_p < 2 ^ 31 by omega)
  refine jd_astore_n (ls' := [_, _, _, _, _, _, _]) dX1_give_5 (Nat.le_of_ble_eq_true rfl) rfl rfl ?_
  refine jd_aload_n dX1_give_6 rfl ?_
  refine jd_iload_n dX1_give_7 rfl ?_
  refine jd_callV (As := [.int (t)]) (rest := []) (ct_X1_sleeperAt hw hI (t)) (jd_rv ((w_this hw)) 0 rfl rfl) rfl q889 q891 qs37 q80 q892 nX1_sleeperAt dX1_give_8 rfl rfl rfl (Nat.le_of_ble_eq_true rfl) ⟨(Nat.le_of_ble_eq_true rfl), (Nat.le_of_ble_eq_true rfl), by omega, by omega⟩ (fun rv1 hn1 hq1 => ?_) (fun E h2 hx => by obtain ⟨h3, h4, h5⟩ := hx; subst h5; have hx : ¬ _ ∧ True := ⟨h3, trivial⟩; exact jd_xout rfl (jd_th.mk (k := 1) (by unfold c_give; (try simp only [hT_p]); rw [if_pos hb0, if_neg hx.1]) (by decide) h4))
  obtain ⟨hb1, k_t, hk_t, rfl, rfl, he1⟩ := hq1
  rw [he1]
  have hT_t := tN_nI (show k_t < 2 ^ 31 by omega)
  refine jd_astore (ls' := [_, _, _, _, _, _, _]) dX1_give_11 (Nat.le_of_ble_eq_true rfl) rfl rfl ?_
  refine jd_aload_n dX1_give_13 rfl ?_
  refine jd_getN in_X11 (((w_part hw)) k_p (show k_p < nP κ by omega)) 3 q908 dX1_give_14 rfl (Nat.le_of_ble_eq_true rfl) rfl ?_
  refine jd_istore (ls' := [_, _, _, _, _, _, _]) dX1_give_17 (Nat.le_of_ble_eq_true rfl) rfl rfl ?_
  refine jd_iload dX1_give_19 rfl ?_
  refine jd_iconst (v := (-1)) dX1_give_21 (by decide) ?_
  refine jd_mg2 36 (.int (jd_b ((¬ (pHead κ k_p = none) ∧ (¬ (pHead κ k_p = some k_t)))))) (fun hj3 => ?_) ?_
  · refine jd_ocmpN_eq (tgt := 35) dX1_give_22 (by decide) (fun j hj => by have := (hIp k_p (by omega)).1 j hj; omega) (fun z4 => ?_) (fun z5 => ?_)
    · refine jd_iconst (v := 0) dX1_give_35 (by decide) ?_
      exact jd_top (congrArg Value.int (jd_b0 (fun w => w.1 z4)).symm) hj3
    · refine jd_iload dX1_give_25 rfl ?_
      refine jd_iload_n dX1_give_27 rfl ?_
      refine jd_ocmp_eq (tgt := 35) dX1_give_28 (by decide) (fun j hj => by have := (hIp k_p (by omega)).1 j hj; omega) (by omega) (fun z6 => ?_) (fun z7 => ?_)
      · refine jd_iconst (v := 0) dX1_give_35 (by decide) ?_
        exact jd_top (congrArg Value.int (jd_b0 (fun w => (fun w => w z6) w.2)).symm) hj3
      · refine jd_iconst (v := 1) dX1_give_31 (by decide) ?_
        refine jd_goto (tgt := 36) dX1_give_32 (by decide) ?_
        exact jd_top (congrArg Value.int (jd_b1 ⟨z5, z7⟩).symm) hj3
  · refine jd_callS (As := [.int (jd_b ((¬ (pHead κ k_p = none) ∧ (¬ (pHead κ k_p = some k_t)))))]) (rest := []) (ct_X1_checkState ((¬ (pHead κ k_p = none) ∧ (¬ (pHead κ k_p = some k_t))))) rfl q747 q748 q80 q749 nX1_checkState dX1_give_36 rfl rfl (Nat.le_of_ble_eq_true rfl) ⟨(Nat.le_of_ble_eq_true rfl), (Nat.le_of_ble_eq_true rfl), by omega, by omega⟩ (fun rv7 hn7 hq7 => ?_) (fun E h2 hx => by obtain ⟨h3, h4, h5⟩ := hx; subst h5; have hx : ¬ _ ∧ True := ⟨h3, trivial⟩; exact jd_xout rfl (jd_th.mk (k := 2) (by unfold c_give; (try simp only [hT_p, hT_t]); rw [if_pos hb0, if_pos hb1, if_neg hx.1]) (by decide) h4))
    obtain ⟨hb7, rfl, he7⟩ := hq7
    rw [he7]
    obtain ⟨kb, hkb⟩ := Option.ne_none_iff_exists'.mp hb7.1
    have hkb2 := (hIp k_p hk_p).1 kb hkb
    have hgB : (pHead κ k_p).getD 0 = kb := by rw [hkb]; rfl
    have hsb := hIs kb hkb2
    have hst := hIs k_t hk_t
    have hsb2 := hsb.2.1
    have hst2 := hst.2.1
    have hsb1 := hsb.1
    have hst1 := hst.1
    refine jd_lsub [some (.ref (β 0 0)), some (.int (nI k_p)), some (.int (nI k_t)), some (.ref (β 8 k_p)), some (.ref (β 5 k_t)), some (.int (nI kb)), none] ⟨rfl, rfl, rfl, rfl, rfl, (congrArg (fun x => some (Value.int x)) (by rw [hkb]; rfl)), trivial⟩ ?_
    refine jd_aload_n dX1_give_39 rfl ?_
    refine jd_get in_X1 ((w_this hw)) 2 q285 dX1_give_40 rfl (Nat.le_of_ble_eq_true rfl) rfl ?_
    refine jd_iload dX1_give_43 rfl ?_
    refine jd_pF (n := 1) (As := [.int (nI kb)]) (rest := []) (ct_J2_get hlS (show nS κ ≤ 900 by omega) (k := kb) (show kb < nS κ by omega)) (jd_rv hlS 15 rfl rfl) (ci := 15) rfl (List.mem_of_getElem? (i := 1) rfl) rfl q320 q323 q325 q83 q327 q322 q326 q324 q207 ⟨by decide, by decide, by decide +kernel⟩ dX1_give_45 rfl rfl (Nat.le_of_ble_eq_true rfl) ⟨(Nat.le_of_ble_eq_true rfl), (Nat.le_of_ble_eq_true rfl)⟩ ?_
    refine jd_castS (jd_rv (((w_sleeper hw)) kb (show kb < nS κ by omega)) 4 rfl rfl) (ci := 4) rfl q352 dX1_give_50 ?_
    refine jd_astore (ls' := [_, _, _, _, _, _, _]) dX1_give_53 (Nat.le_of_ble_eq_true rfl) rfl rfl ?_
    refine jd_aload dX1_give_55 rfl ?_
    refine jd_gets (jd_zR (k := 0) (by decide) rfl) q893 dX1_give_57 ?_
    refine jd_pV (As := [.ref (jd_rA G 0)]) (rest := []) (ct_X9_is (((w_sleeper hw)) kb (show kb < nS κ by omega)) (r := sRest κ kb) (q := 0) (by omega) (by decide)) (jd_rv (((w_sleeper hw)) kb (show kb < nS κ by omega)) 4 rfl rfl) rfl q355 q356 q357 q105 q358 nX9_is dX1_give_60 rfl rfl rfl (Nat.le_of_ble_eq_true rfl) ⟨(Nat.le_of_ble_eq_true rfl), (Nat.le_of_ble_eq_true rfl)⟩ ?_
    refine jd_mg1 95 (.int (jd_b ((((sRest κ kb = 0)) ∧ (((sRest κ k_t = 0)) ∧ ((sLand κ kb) = (sLand κ k_t))))))) (fun hj9 => ?_) ?_
    · refine jd_bif_eq (tgt := 94) dX1_give_63 (by decide) (fun z10 => ?_) (fun z11 => ?_)
      · refine jd_iconst (v := 0) dX1_give_94 (by decide) ?_
        exact jd_top (congrArg Value.int (jd_b0 (fun w => z10 w.1)).symm) hj9
      · refine jd_aload dX1_give_66 rfl ?_
        refine jd_gets (jd_zR (k := 0) (by decide) rfl) q893 dX1_give_68 ?_
        refine jd_pV (As := [.ref (jd_rA G 0)]) (rest := []) (ct_X9_is (((w_sleeper hw)) k_t (show k_t < nS κ by omega)) (r := sRest κ k_t) (q := 0) (by omega) (by decide)) (jd_rv (((w_sleeper hw)) k_t (show k_t < nS κ by omega)) 4 rfl rfl) rfl q355 q356 q357 q105 q358 nX9_is dX1_give_71 rfl rfl rfl (Nat.le_of_ble_eq_true rfl) ⟨(Nat.le_of_ble_eq_true rfl), (Nat.le_of_ble_eq_true rfl)⟩ ?_
        refine jd_bif_eq (tgt := 94) dX1_give_74 (by decide) (fun z12 => ?_) (fun z13 => ?_)
        · refine jd_iconst (v := 0) dX1_give_94 (by decide) ?_
          exact jd_top (congrArg Value.int (jd_b0 (fun w => (fun w => z12 w.1) w.2)).symm) hj9
        · refine jd_aload dX1_give_77 rfl ?_
          refine jd_getN in_X9 (((w_sleeper hw)) kb (show kb < nS κ by omega)) 2 q854 dX1_give_79 rfl (Nat.le_of_ble_eq_true rfl) rfl ?_
          refine jd_aload dX1_give_82 rfl ?_
          refine jd_getN in_X9 (((w_sleeper hw)) k_t (show k_t < nS κ by omega)) 2 q854 dX1_give_84 rfl (Nat.le_of_ble_eq_true rfl) rfl ?_
          refine jd_ncmp_ne (a := (sLand κ kb)) (b := (sLand κ k_t)) (tgt := 94) dX1_give_87 (by decide) (by omega) (by omega) (fun z14 => ?_) (fun z15 => ?_)
          · refine jd_iconst (v := 0) dX1_give_94 (by decide) ?_
            exact jd_top (congrArg Value.int (jd_b0 (fun w => (fun w => z14 w.2) w.2)).symm) hj9
          · refine jd_iconst (v := 1) dX1_give_90 (by decide) ?_
            refine jd_goto (tgt := 95) dX1_give_91 (by decide) ?_
            exact jd_top (congrArg Value.int (jd_b1 ⟨z11, ⟨z13, z15⟩⟩).symm) hj9
    · refine jd_callS (As := [.int (jd_b ((((sRest κ kb = 0)) ∧ (((sRest κ k_t = 0)) ∧ ((sLand κ kb) = (sLand κ k_t))))))]) (rest := []) (ct_X1_checkState ((((sRest κ kb = 0)) ∧ (((sRest κ k_t = 0)) ∧ ((sLand κ kb) = (sLand κ k_t)))))) rfl q747 q748 q80 q749 nX1_checkState dX1_give_95 rfl rfl (Nat.le_of_ble_eq_true rfl) ⟨(Nat.le_of_ble_eq_true rfl), (Nat.le_of_ble_eq_true rfl), by omega, by omega⟩ (fun rv15 hn15 hq15 => ?_) (fun E h2 hx => by obtain ⟨h3, h4, h5⟩ := hx; subst h5; have hx : ¬ _ ∧ True := ⟨h3, trivial⟩; exact jd_xout rfl (jd_th.mk (k := 2) (by unfold c_give; (try simp only [hT_p, hT_t, hgB]); rw [if_pos hb0, if_pos hb1, if_pos hb7, if_neg hx.1]) (by decide) h4))
      obtain ⟨hb15, rfl, he15⟩ := hq15
      rw [he15]
      refine jd_aload_n dX1_give_98 rfl ?_
      refine jd_iload_n dX1_give_99 rfl ?_
      refine jd_putN (fs' := [_, _, _, _, _, _, _]) in_X11 tyX11_ok nmX11 (((w_part hw)) k_p (show k_p < nP κ by omega)) 3 q908 dX1_give_100 rfl (Nat.le_of_ble_eq_true rfl) rfl rfl rfl (Nat.le_of_ble_eq_true rfl) rfl ?_
      refine jd_updG (fun h17 hs17 ho17 => ?_)
      have hw17 := wu_pHead hw (k := k_p) (show k_p < nP κ by omega) (v := some k_t) hs17 ho17
      refine jd_iload dX1_give_103 rfl ?_
      exact jd_iret dX1_give_105 rfl ⟨by unfold c_give; (try simp only [hT_p, hT_t, hgB]); rw [if_pos hb0, if_pos hb1, if_pos hb7, if_pos hb15], by first | rfl | (simp only [hT_p, hT_t, hgB]; done) | (simp only [hT_p, hT_t, hgB]; rfl), β, rfl, (by first | exact hw17 | (simp only [hT_p, hT_t, hgB]; exact hw17)), (fun j hj => (ho17 j (ll_nek (by decide) hj)))⟩

set_option maxRecDepth 20000 in
set_option maxHeartbeats 2000000 in
theorem ct_X1_revoke {G : jd_G} {β : ll_B} {κ : ll_K} {h : jd_H} (hw : WC G β κ h) (hI : ll_I κ) (g : Int32) (v : Int32) : jd_Ct G mX1_revoke 12 (4) (24) [.ref (β 0 0), .int (g), .int (v)] h (jd_op G β h (c_revoke κ g v) (.int (jd_b (¬ gRev κ (tN g) (tN v) = true))) (k_revoke κ (tN g) (tN v))) (jd_th h (c_revoke κ g v) nmA) := by
  obtain ⟨⟨hG8, hS12, hP24, hH40, hN99, hH24⟩, hIg, hIs, hIp, hIh, hIl, hIq⟩ := id hI
  obtain ⟨mcL, hlL⟩ := w_lands hw
  obtain ⟨mcG, hlG⟩ := w_gates hw
  obtain ⟨mcS, hlS⟩ := w_sleepers hw
  obtain ⟨mcP, hlP⟩ := w_parts hw
  obtain ⟨mcH, hlH⟩ := w_hidings hw
  refine jd_ct (ls := [some (.ref (β 0 0)), some (.int (g)), some (.int (v)), none, none]) rfl rfl (by decide) (Nat.le_of_ble_eq_true rfl) rfl ?_
  refine jd_aload_n dX1_revoke_0 rfl ?_
  refine jd_iload_n dX1_revoke_1 rfl ?_
  refine jd_callV (As := [.int (g)]) (rest := []) (ct_X1_gateAt hw hI (g)) (jd_rv ((w_this hw)) 0 rfl rfl) rfl q818 q820 qs36 q80 q821 nX1_gateAt dX1_revoke_2 rfl rfl rfl (Nat.le_of_ble_eq_true rfl) ⟨(Nat.le_of_ble_eq_true rfl), (Nat.le_of_ble_eq_true rfl), by omega, by omega⟩ (fun rv0 hn0 hq0 => ?_) (fun E h2 hx => by obtain ⟨h3, h4, h5⟩ := hx; subst h5; have hx : ¬ _ ∧ True := ⟨h3, trivial⟩; exact jd_xout rfl (jd_th.mk (k := 1) (by unfold c_revoke; rw [if_neg hx.1]) (by decide) h4))
  obtain ⟨hb0, k_g, hk_g, rfl, rfl, he0⟩ := hq0
  rw [he0]
  have hT_g := tN_nI (show k_g < 2 ^ 31 by omega)
  refine jd_astore_n (ls' := [_, _, _, _, _]) dX1_revoke_5 (Nat.le_of_ble_eq_true rfl) rfl rfl ?_
  refine jd_iload_n dX1_revoke_6 rfl ?_
  refine jd_iconst (v := 0) dX1_revoke_7 (by decide) ?_
  refine jd_bipush (v := 96) dX1_revoke_8 (by decide) ?_
  refine jd_callS (As := [.int (v), .int (0), .int (96)]) (rest := []) (ct_X1_mustBeIn (v) (0) (96)) rfl q718 q719 q80 q720 nX1_mustBeIn dX1_revoke_10 rfl rfl (Nat.le_of_ble_eq_true rfl) ⟨(Nat.le_of_ble_eq_true rfl), (Nat.le_of_ble_eq_true rfl), by omega, by omega⟩ (fun rv1 hn1 hq1 => ?_) (fun E h2 hx => by obtain ⟨h3, h4, h5⟩ := hx; subst h5; have hx : ¬ _ ∧ True := ⟨h3, trivial⟩; exact jd_xout rfl (jd_th.mk (k := 2) (by unfold c_revoke; (try simp only [hT_g]); rw [if_pos hb0, if_neg hx.1]) (by decide) h4))
  obtain ⟨hb1, rfl, he1⟩ := hq1
  rw [he1]
  obtain ⟨k_v, hk_v, rfl⟩ := inR_ex (lo := 0) (hi := 96) hb1 (by omega) (by omega)
  have hT_v := tN_nI (show k_v < 2 ^ 31 by omega)
  refine jd_aload_n dX1_revoke_13 rfl ?_
  refine jd_getN in_X7 (((w_gate hw)) k_g (show k_g < nG κ by omega)) 6 q790 dX1_revoke_14 rfl (Nat.le_of_ble_eq_true rfl) rfl ?_
  refine jd_iload_n dX1_revoke_17 rfl ?_
  refine jd_zald (((w_rev hw)) k_g (show k_g < nG κ by omega)) dX1_revoke_18 (vp_in_nI (by omega) (by omega)) ?_
  refine jd_top (w := .int (jd_b (gRev κ k_g k_v = true))) (by rw [nI_clamp (by omega)]) ?_
  refine jd_istore (ls' := [_, _, _, _, _]) dX1_revoke_19 (Nat.le_of_ble_eq_true rfl) rfl rfl ?_
  refine jd_aload_n dX1_revoke_21 rfl ?_
  refine jd_getN in_X7 (((w_gate hw)) k_g (show k_g < nG κ by omega)) 6 q790 dX1_revoke_22 rfl (Nat.le_of_ble_eq_true rfl) rfl ?_
  refine jd_iload_n dX1_revoke_25 rfl ?_
  refine jd_iconst (v := 1) dX1_revoke_26 (by decide) ?_
  refine jd_zast (((w_rev hw)) k_g (show k_g < nG κ by omega)) dX1_revoke_27 (vp_in_nI (by omega) (by omega)) (Or.inr rfl) ?_
  refine jd_updG (fun h3 hs3 ho3 => ?_)
  have hw3 := wu_gRev hw (k := k_g) (show k_g < nG κ by omega) (V := (fun x => if x = k_v then true else gRev κ k_g x)) (rev_upd (by omega)) hs3 ho3
  refine jd_iload dX1_revoke_28 rfl ?_
  refine jd_mg1 38 (.int (jd_b ((¬ (gRev κ k_g k_v = true))))) (fun hj4 => ?_) ?_
  · refine jd_bif_ne (tgt := 37) dX1_revoke_30 (by decide) (fun z5 => ?_) (fun z6 => ?_)
    · refine jd_iconst (v := 0) dX1_revoke_37 (by decide) ?_
      exact jd_top (congrArg Value.int (jd_b0 (fun w => w z5)).symm) hj4
    · refine jd_iconst (v := 1) dX1_revoke_33 (by decide) ?_
      refine jd_goto (tgt := 38) dX1_revoke_34 (by decide) ?_
      exact jd_top (congrArg Value.int (jd_b1 z6).symm) hj4
  · exact jd_zret dX1_revoke_38 rfl (jd_b01 _) ⟨by unfold c_revoke; (try simp only [hT_g, hT_v]); rw [if_pos hb0, if_pos hb1], by first | rfl | (simp only [hT_g, hT_v]; done) | (simp only [hT_g, hT_v]; rfl), β, rfl, (by first | exact hw3 | (simp only [hT_g, hT_v]; exact hw3)), (fun j hj => (ho3 j (ll_nek (by decide) hj)))⟩

set_option maxRecDepth 20000 in
set_option maxHeartbeats 2000000 in
theorem ct_X1_appeal {G : jd_G} {β : ll_B} {κ : ll_K} {h : jd_H} (hw : WC G β κ h) (hI : ll_I κ) (p : Int32) : jd_Ct G mX1_appeal 12 (4) (24) [.ref (β 0 0), .int (p)] h (jd_op G β h (c_appeal κ p) (.int (jd_b (apOk κ (tN p) ((pStore κ (tN p)).getD 0) ((pBy κ (tN p)).getD 0)))) (if apOk κ (tN p) ((pStore κ (tN p)).getD 0) ((pBy κ (tN p)).getD 0) then k_appeal κ (tN p) ((pStore κ (tN p)).getD 0) else κ)) (jd_th h (c_appeal κ p) nmB) := by
  obtain ⟨⟨hG8, hS12, hP24, hH40, hN99, hH24⟩, hIg, hIs, hIp, hIh, hIl, hIq⟩ := id hI
  obtain ⟨mcL, hlL⟩ := w_lands hw
  obtain ⟨mcG, hlG⟩ := w_gates hw
  obtain ⟨mcS, hlS⟩ := w_sleepers hw
  obtain ⟨mcP, hlP⟩ := w_parts hw
  obtain ⟨mcH, hlH⟩ := w_hidings hw
  refine jd_ct (ls := [some (.ref (β 0 0)), some (.int (p)), none, none, none]) rfl rfl (by decide) (Nat.le_of_ble_eq_true rfl) rfl ?_
  refine jd_aload_n dX1_appeal_0 rfl ?_
  refine jd_iload_n dX1_appeal_1 rfl ?_
  refine jd_callV (As := [.int (p)]) (rest := []) (ct_X1_partAt hw hI (p)) (jd_rv ((w_this hw)) 0 rfl rfl) rfl q937 q939 qs38 q80 q940 nX1_partAt dX1_appeal_2 rfl rfl rfl (Nat.le_of_ble_eq_true rfl) ⟨(Nat.le_of_ble_eq_true rfl), (Nat.le_of_ble_eq_true rfl), by omega, by omega⟩ (fun rv0 hn0 hq0 => ?_) (fun E h2 hx => by obtain ⟨h3, h4, h5⟩ := hx; subst h5; have hx : ¬ _ ∧ True := ⟨h3, trivial⟩; exact jd_xout rfl (jd_th.mk (k := 1) (by unfold c_appeal; rw [if_neg hx.1]) (by decide) h4))
  obtain ⟨hb0, k_p, hk_p, rfl, rfl, he0⟩ := hq0
  rw [he0]
  have hT_p := tN_nI (show k_p < 2 ^ 31 by omega)
  refine jd_astore_n (ls' := [_, _, _, _, _]) dX1_appeal_5 (Nat.le_of_ble_eq_true rfl) rfl rfl ?_
  have hp9 := hIp k_p hk_p
  have hp8 := hp9.2.2.2.1
  refine jd_aload_n dX1_appeal_6 rfl ?_
  refine jd_getN in_X11 (((w_part hw)) k_p (show k_p < nP κ by omega)) 5 q912 dX1_appeal_7 rfl (Nat.le_of_ble_eq_true rfl) rfl ?_
  refine jd_gets (jd_zF (k := 3) (by decide) rfl) q1069 dX1_appeal_10 ?_
  refine jd_mg2 29 (.int (jd_b ((((pFate κ k_p) = 3) ∧ (¬ (pStore κ k_p = none)))))) (fun hj2 => ?_) ?_
  · refine jd_acmpF_ne (tgt := 28) dX1_appeal_13 (by decide) (by first | assumption | omega) (by first | assumption | omega) (fun z3 => ?_) (fun z4 => ?_)
    · refine jd_iconst (v := 0) dX1_appeal_28 (by decide) ?_
      exact jd_top (congrArg Value.int (jd_b0 (fun w => z3 w.1)).symm) hj2
    · refine jd_aload_n dX1_appeal_16 rfl ?_
      refine jd_getN in_X11 (((w_part hw)) k_p (show k_p < nP κ by omega)) 4 q910 dX1_appeal_17 rfl (Nat.le_of_ble_eq_true rfl) rfl ?_
      refine jd_iconst (v := (-1)) dX1_appeal_20 (by decide) ?_
      refine jd_ocmpN_eq (tgt := 28) dX1_appeal_21 (by decide) (fun j hj => by have := ((hIp k_p (by omega)).2.1 j hj).1; omega) (fun z5 => ?_) (fun z6 => ?_)
      · refine jd_iconst (v := 0) dX1_appeal_28 (by decide) ?_
        exact jd_top (congrArg Value.int (jd_b0 (fun w => (fun w => w z5) w.2)).symm) hj2
      · refine jd_iconst (v := 1) dX1_appeal_24 (by decide) ?_
        refine jd_goto (tgt := 29) dX1_appeal_25 (by decide) ?_
        exact jd_top (congrArg Value.int (jd_b1 ⟨z4, z6⟩).symm) hj2
  · refine jd_callS (As := [.int (jd_b ((((pFate κ k_p) = 3) ∧ (¬ (pStore κ k_p = none)))))]) (rest := []) (ct_X1_checkState ((((pFate κ k_p) = 3) ∧ (¬ (pStore κ k_p = none))))) rfl q747 q748 q80 q749 nX1_checkState dX1_appeal_29 rfl rfl (Nat.le_of_ble_eq_true rfl) ⟨(Nat.le_of_ble_eq_true rfl), (Nat.le_of_ble_eq_true rfl), by omega, by omega⟩ (fun rv6 hn6 hq6 => ?_) (fun E h2 hx => by obtain ⟨h3, h4, h5⟩ := hx; subst h5; have hx : ¬ _ ∧ True := ⟨h3, trivial⟩; exact jd_xout rfl (jd_th.mk (k := 2) (by unfold c_appeal; (try simp only [hT_p]); rw [if_pos hb0, if_neg hx.1]) (by decide) h4))
    obtain ⟨hb6, rfl, he6⟩ := hq6
    rw [he6]
    obtain ⟨sl, hsl⟩ := Option.ne_none_iff_exists'.mp hb6.2
    have hp1 := hIp k_p hk_p
    obtain ⟨sb, hsb⟩ := Option.ne_none_iff_exists'.mp (hp1.2.2.2.2.2.2 hb6.1)
    have hsl2 := hp1.2.1 sl hsl
    have hsb2 := hp1.2.2.1 sb hsb
    have hs1 := hIs sb hsb2
    have hs2 := hs1.2.1
    have hs3 := hs1.1
    have hgl : (pStore κ k_p).getD 0 = sl := by rw [hsl]; rfl
    have hgb : (pBy κ k_p).getD 0 = sb := by rw [hsb]; rfl
    refine jd_aload_n dX1_appeal_32 rfl ?_
    refine jd_get in_X1 ((w_this hw)) 0 q283 dX1_appeal_33 rfl (Nat.le_of_ble_eq_true rfl) rfl ?_
    refine jd_aload_n dX1_appeal_36 rfl ?_
    refine jd_getN in_X11 (((w_part hw)) k_p (show k_p < nP κ by omega)) 4 q910 dX1_appeal_37 rfl (Nat.le_of_ble_eq_true rfl) rfl ?_
    refine jd_top (w := .int (nI sl)) (congrArg Value.int (by rw [hsl]; rfl)) ?_
    refine jd_pF (n := 1) (As := [.int (nI sl)]) (rest := []) (ct_J2_get hlL (show 6 ≤ 900 by omega) (k := sl) (show sl < 6 by omega)) (jd_rv hlL 15 rfl rfl) (ci := 15) rfl (List.mem_of_getElem? (i := 1) rfl) rfl q320 q323 q325 q83 q327 q322 q326 q324 q207 ⟨by decide, by decide, by decide +kernel⟩ dX1_appeal_40 rfl rfl (Nat.le_of_ble_eq_true rfl) ⟨(Nat.le_of_ble_eq_true rfl), (Nat.le_of_ble_eq_true rfl)⟩ ?_
    refine jd_castS (jd_rv (((w_land hw)) sl (show sl < 6 by omega)) 2 rfl rfl) (ci := 2) rfl q175 dX1_appeal_45 ?_
    refine jd_astore_n (ls' := [_, _, _, _, _]) dX1_appeal_48 (Nat.le_of_ble_eq_true rfl) rfl rfl ?_
    refine jd_aload_n dX1_appeal_49 rfl ?_
    refine jd_get in_X1 ((w_this hw)) 2 q285 dX1_appeal_50 rfl (Nat.le_of_ble_eq_true rfl) rfl ?_
    refine jd_aload_n dX1_appeal_53 rfl ?_
    refine jd_getN in_X11 (((w_part hw)) k_p (show k_p < nP κ by omega)) 6 q914 dX1_appeal_54 rfl (Nat.le_of_ble_eq_true rfl) rfl ?_
    refine jd_top (w := .int (nI sb)) (congrArg Value.int (by rw [hsb]; rfl)) ?_
    refine jd_pF (n := 1) (As := [.int (nI sb)]) (rest := []) (ct_J2_get hlS (show nS κ ≤ 900 by omega) (k := sb) (show sb < nS κ by omega)) (jd_rv hlS 15 rfl rfl) (ci := 15) rfl (List.mem_of_getElem? (i := 1) rfl) rfl q320 q323 q325 q83 q327 q322 q326 q324 q207 ⟨by decide, by decide, by decide +kernel⟩ dX1_appeal_57 rfl rfl (Nat.le_of_ble_eq_true rfl) ⟨(Nat.le_of_ble_eq_true rfl), (Nat.le_of_ble_eq_true rfl)⟩ ?_
    refine jd_castS (jd_rv (((w_sleeper hw)) sb (show sb < nS κ by omega)) 4 rfl rfl) (ci := 4) rfl q352 dX1_appeal_62 ?_
    refine jd_astore (ls' := [_, _, _, _, _]) dX1_appeal_65 (Nat.le_of_ble_eq_true rfl) rfl rfl ?_
    refine jd_aload_n dX1_appeal_67 rfl ?_
    refine jd_getN in_X11 (((w_part hw)) k_p (show k_p < nP κ by omega)) 1 q904 dX1_appeal_68 rfl (Nat.le_of_ble_eq_true rfl) rfl ?_
    refine jd_aload_n dX1_appeal_71 rfl ?_
    refine jd_getN in_X3 (((w_land hw)) sl (show sl < 6 by omega)) 1 q184 dX1_appeal_72 rfl (Nat.le_of_ble_eq_true rfl) rfl ?_
    refine jd_icmp_gt (tgt := 101) dX1_appeal_75 (by decide) (fun z8 => ?_) (fun z9 => ?_)
    · refine jd_iconst (v := 0) dX1_appeal_101 (by decide) ?_
      have hno : ¬ apOk κ k_p sl sb := (fun w => w.1 z8)
      exact jd_zret dX1_appeal_102 rfl (Or.inl rfl) ⟨by unfold c_appeal; (try simp only [hT_p, hgl, hgb]); rw [if_pos hb0, if_pos hb6], by simp only [hT_p, hgl, hgb]; rw [jd_b0 hno], β, rfl, (by simp only [hT_p, hgl, hgb]; rw [if_neg hno]; exact hw), (fun j hj => rfl)⟩
    · refine jd_aload dX1_appeal_78 rfl ?_
      refine jd_getN in_X9 (((w_sleeper hw)) sb (show sb < nS κ by omega)) 2 q854 dX1_appeal_80 rfl (Nat.le_of_ble_eq_true rfl) rfl ?_
      refine jd_aload_n dX1_appeal_83 rfl ?_
      refine jd_getN in_X11 (((w_part hw)) k_p (show k_p < nP κ by omega)) 4 q910 dX1_appeal_84 rfl (Nat.le_of_ble_eq_true rfl) rfl ?_
      refine jd_top (w := .int (nI sl)) (congrArg Value.int (by rw [hsl]; rfl)) ?_
      refine jd_ncmp_ne (a := (sLand κ sb)) (b := sl) (tgt := 101) dX1_appeal_87 (by decide) (by omega) (by omega) (fun z10 => ?_) (fun z11 => ?_)
      · refine jd_iconst (v := 0) dX1_appeal_101 (by decide) ?_
        have hno : ¬ apOk κ k_p sl sb := (fun w => z10 w.2.1)
        exact jd_zret dX1_appeal_102 rfl (Or.inl rfl) ⟨by unfold c_appeal; (try simp only [hT_p, hgl, hgb]); rw [if_pos hb0, if_pos hb6], by simp only [hT_p, hgl, hgb]; rw [jd_b0 hno], β, rfl, (by simp only [hT_p, hgl, hgb]; rw [if_neg hno]; exact hw), (fun j hj => rfl)⟩
      · refine jd_aload dX1_appeal_90 rfl ?_
        refine jd_gets (jd_zR (k := 0) (by decide) rfl) q893 dX1_appeal_92 ?_
        refine jd_pV (As := [.ref (jd_rA G 0)]) (rest := []) (ct_X9_is (((w_sleeper hw)) sb (show sb < nS κ by omega)) (r := sRest κ sb) (q := 0) (by omega) (by decide)) (jd_rv (((w_sleeper hw)) sb (show sb < nS κ by omega)) 4 rfl rfl) rfl q355 q356 q357 q105 q358 nX9_is dX1_appeal_95 rfl rfl rfl (Nat.le_of_ble_eq_true rfl) ⟨(Nat.le_of_ble_eq_true rfl), (Nat.le_of_ble_eq_true rfl)⟩ ?_
        refine jd_bif_ne (tgt := 103) dX1_appeal_98 (by decide) (fun z12 => ?_) (fun z13 => ?_)
        · refine jd_aload_n dX1_appeal_103 rfl ?_
          refine jd_dup dX1_appeal_104 rfl ?_
          refine jd_getN in_X3 (((w_land hw)) sl (show sl < 6 by omega)) 5 q189 dX1_appeal_105 rfl (Nat.le_of_ble_eq_true rfl) rfl ?_
          refine jd_aload_n dX1_appeal_108 rfl ?_
          refine jd_getN in_X11 (((w_part hw)) k_p (show k_p < nP κ by omega)) 1 q904 dX1_appeal_109 rfl (Nat.le_of_ble_eq_true rfl) rfl ?_
          refine jd_isub dX1_appeal_112 ?_
          refine jd_putN (fs' := [_, _, _, _, _, _]) in_X3 tyX3_ok nmX3 (((w_land hw)) sl (show sl < 6 by omega)) 5 q189 dX1_appeal_113 rfl (Nat.le_of_ble_eq_true rfl) rfl rfl rfl (Nat.le_of_ble_eq_true rfl) rfl ?_
          refine jd_updG (fun h14 hs14 ho14 => ?_)
          have hw14 := wu_lFin hw (k := sl) (show sl < 6 by omega) (v := ((lFin κ sl) - (pWorth κ k_p))) hs14 ho14
          refine jd_aload_n dX1_appeal_116 rfl ?_
          refine jd_iconst (v := (-1)) dX1_appeal_117 (by decide) ?_
          refine jd_putN (fs' := [_, _, _, _, _, _, _]) in_X11 tyX11_ok nmX11 (((w_part hw14)) k_p (show k_p < nP κ by omega)) 4 q910 dX1_appeal_118 rfl (Nat.le_of_ble_eq_true rfl) rfl rfl rfl (Nat.le_of_ble_eq_true rfl) rfl ?_
          refine jd_updG (fun h15 hs15 ho15 => ?_)
          have hw15 := wu_pStore hw14 (k := k_p) (show k_p < nP κ by omega) (v := none) hs15 ho15
          refine jd_aload_n dX1_appeal_121 rfl ?_
          refine jd_aload_n dX1_appeal_122 rfl ?_
          refine jd_getN in_X11 (((w_part hw15)) k_p (show k_p < nP κ by omega)) 6 q914 dX1_appeal_123 rfl (Nat.le_of_ble_eq_true rfl) rfl ?_
          refine jd_putN (fs' := [_, _, _, _, _, _, _]) in_X11 tyX11_ok nmX11 (((w_part hw15)) k_p (show k_p < nP κ by omega)) 3 q908 dX1_appeal_126 rfl (Nat.le_of_ble_eq_true rfl) rfl rfl rfl (Nat.le_of_ble_eq_true rfl) rfl ?_
          refine jd_updG (fun h16 hs16 ho16 => ?_)
          have hw16 := wu_pHead hw15 (k := k_p) (show k_p < nP κ by omega) (v := pBy (ll_so (ll_sz κ 5 sl (((lFin κ sl) - (pWorth κ k_p)))) 2 k_p none) k_p) hs16 ho16
          refine jd_aload_n dX1_appeal_129 rfl ?_
          refine jd_gets (jd_zF (k := 2) (by decide) rfl) q1081 dX1_appeal_130 ?_
          refine jd_putN (fs' := [_, _, _, _, _, _, _]) in_X11 tyX11_ok nmX11 (((w_part hw16)) k_p (show k_p < nP κ by omega)) 5 q912 dX1_appeal_133 rfl (Nat.le_of_ble_eq_true rfl) rfl rfl rfl (Nat.le_of_ble_eq_true rfl) rfl ?_
          refine jd_updG (fun h17 hs17 ho17 => ?_)
          have hw17 := wu_pFate hw16 (k := k_p) (show k_p < nP κ by omega) (v := 2) hs17 ho17
          refine jd_iconst (v := 1) dX1_appeal_136 (by decide) ?_
          have hyes : apOk κ k_p sl sb := ⟨z9, z11, z12⟩
          exact jd_zret dX1_appeal_137 rfl (Or.inr rfl) ⟨by unfold c_appeal; (try simp only [hT_p, hgl, hgb]); rw [if_pos hb0, if_pos hb6], by simp only [hT_p, hgl, hgb]; rw [jd_b1 hyes], β, rfl, (by simp only [hT_p, hgl, hgb]; rw [if_pos hyes]; exact hw17), (fun j hj => ((ho17 j (ll_nek (by decide) hj)).trans ((ho16 j (ll_nek (by decide) hj)).trans ((ho15 j (ll_nek (by decide) hj)).trans (ho14 j (ll_nek (by decide) hj))))))⟩
        · refine jd_iconst (v := 0) dX1_appeal_101 (by decide) ?_
          have hno : ¬ apOk κ k_p sl sb := (fun w => z13 w.2.2)
          exact jd_zret dX1_appeal_102 rfl (Or.inl rfl) ⟨by unfold c_appeal; (try simp only [hT_p, hgl, hgb]); rw [if_pos hb0, if_pos hb6], by simp only [hT_p, hgl, hgb]; rw [jd_b0 hno], β, rfl, (by simp only [hT_p, hgl, hgb]; rw [if_neg hno]; exact hw), (fun j hj => rfl)⟩
