/-! the component: acts, second (printed by mk_c.py) -/
set_option maxRecDepth 20000 in
set_option maxHeartbeats 2000000 in
theorem ct_X13_init {G : jd_G} {h : jd_H} {i : jd_Id} {a : Nat} (ho : h i = some (a, .inl (.inr (6, [.int (0), .int (0), .int (0)])))) (g n v : Int32) : jd_Ct G mX13_init 1 (0) (0) [.ref (a), .int (g), .int (n), .int (v)] h (jd_vd (jd_up h i (a, .inl (.inr (6, [.int (g), .int (n), .int (v)]))))) jd_no := by
  refine jd_ct (ls := [some (.ref (a)), some (.int (g)), some (.int (n)), some (.int (v))]) rfl rfl (by decide) (Nat.le_of_ble_eq_true rfl) rfl ?_
  refine jd_aload_n dX13_init_0 rfl ?_
  refine jd_oinit q952 q130 q131 dX13_init_1 (Nat.le_of_ble_eq_true rfl) ?_ (Nat.le_of_ble_eq_true rfl)
  refine jd_aload_n dX13_init_4 rfl ?_
  refine jd_iload_n dX13_init_5 rfl ?_
  refine jd_putF (fs' := [_, _, _]) in_X13 tyX13_ok nmX13 ho 0 q953 dX13_init_6 rfl (Nat.le_of_ble_eq_true rfl) rfl rfl rfl rfl rfl (Nat.le_of_ble_eq_true rfl) rfl ?_
  refine jd_aload_n dX13_init_9 rfl ?_
  refine jd_iload_n dX13_init_10 rfl ?_
  refine jd_putF (fs' := [_, _, _]) in_X13 tyX13_ok nmX13 jd_up_s 1 q955 dX13_init_11 rfl (Nat.le_of_ble_eq_true rfl) rfl rfl rfl rfl rfl (Nat.le_of_ble_eq_true rfl) rfl ?_
  rw [jd_up_up]
  refine jd_aload_n dX13_init_14 rfl ?_
  refine jd_iload_n dX13_init_15 rfl ?_
  refine jd_putF (fs' := [_, _, _]) in_X13 tyX13_ok nmX13 jd_up_s 2 q957 dX13_init_16 rfl (Nat.le_of_ble_eq_true rfl) rfl rfl rfl rfl rfl (Nat.le_of_ble_eq_true rfl) rfl ?_
  rw [jd_up_up]
  exact jd_vret dX13_init_19 rfl ⟨rfl, rfl⟩

set_option maxRecDepth 20000 in
set_option maxHeartbeats 2000000 in
theorem ct_X14_init {G : jd_G} {h : jd_H} {i : jd_Id} {a : Nat} (ho : h i = some (a, .inl (.inr (7, [.int (0), .int (0), .int (0)])))) (s e n : Int32) : jd_Ct G mX14_init 1 (0) (0) [.ref (a), .int (s), .int (e), .int (n)] h (jd_vd (jd_up h i (a, .inl (.inr (7, [.int (s), .int (e), .int (n)]))))) jd_no := by
  refine jd_ct (ls := [some (.ref (a)), some (.int (s)), some (.int (e)), some (.int (n))]) rfl rfl (by decide) (Nat.le_of_ble_eq_true rfl) rfl ?_
  refine jd_aload_n dX14_init_0 rfl ?_
  refine jd_oinit q1057 q130 q131 dX14_init_1 (Nat.le_of_ble_eq_true rfl) ?_ (Nat.le_of_ble_eq_true rfl)
  refine jd_aload_n dX14_init_4 rfl ?_
  refine jd_iload_n dX14_init_5 rfl ?_
  refine jd_putF (fs' := [_, _, _]) in_X14 tyX14_ok nmX14 ho 0 q1058 dX14_init_6 rfl (Nat.le_of_ble_eq_true rfl) rfl rfl rfl rfl rfl (Nat.le_of_ble_eq_true rfl) rfl ?_
  refine jd_aload_n dX14_init_9 rfl ?_
  refine jd_iload_n dX14_init_10 rfl ?_
  refine jd_putF (fs' := [_, _, _]) in_X14 tyX14_ok nmX14 jd_up_s 1 q1060 dX14_init_11 rfl (Nat.le_of_ble_eq_true rfl) rfl rfl rfl rfl rfl (Nat.le_of_ble_eq_true rfl) rfl ?_
  rw [jd_up_up]
  refine jd_aload_n dX14_init_14 rfl ?_
  refine jd_iload_n dX14_init_15 rfl ?_
  refine jd_putF (fs' := [_, _, _]) in_X14 tyX14_ok nmX14 jd_up_s 2 q1061 dX14_init_16 rfl (Nat.le_of_ble_eq_true rfl) rfl rfl rfl rfl rfl (Nat.le_of_ble_eq_true rfl) rfl ?_
  rw [jd_up_up]
  exact jd_vret dX14_init_19 rfl ⟨rfl, rfl⟩

set_option maxRecDepth 20000 in
set_option maxHeartbeats 2000000 in
theorem ct_X11_init {G : jd_G} {h : jd_H} {i : jd_Id} {a : Nat} (ho : h i = some (a, .inl (.inr (5, [.int (0), .int (0), .int (0), .int (0), .int (0), .null, .int (0)])))) (e w x hd : Int32) : jd_Ct G mX11_init 1 (0) (0) [.ref (a), .int (e), .int (w), .int (x), .int (hd)] h (jd_vd (jd_up h i (a, .inl (.inr (5, [.int (e), .int (w), .int (x), .int (hd), .int ((-1)), .ref (jd_fA G 0), .int ((-1))]))))) jd_no := by
  refine jd_ct (ls := [some (.ref (a)), some (.int (e)), some (.int (w)), some (.int (x)), some (.int (hd))]) rfl rfl (by decide) (Nat.le_of_ble_eq_true rfl) rfl ?_
  refine jd_aload_n dX11_init_0 rfl ?_
  refine jd_oinit q898 q130 q131 dX11_init_1 (Nat.le_of_ble_eq_true rfl) ?_ (Nat.le_of_ble_eq_true rfl)
  refine jd_aload_n dX11_init_4 rfl ?_
  refine jd_iconst (v := (-1)) dX11_init_5 (by decide) ?_
  refine jd_put (fs' := [_, _, _, _, _, _, _]) in_X11 tyX11_ok nmX11 ho 4 q909 dX11_init_6 rfl (Nat.le_of_ble_eq_true rfl) rfl rfl rfl (Nat.le_of_ble_eq_true rfl) rfl ?_
  refine jd_aload_n dX11_init_9 rfl ?_
  refine jd_gets (jd_zF (k := 0) (by decide) rfl) q899 dX11_init_10 ?_
  refine jd_put (fs' := [_, _, _, _, _, _, _]) in_X11 tyX11_ok nmX11 jd_up_s 5 q911 dX11_init_13 rfl (Nat.le_of_ble_eq_true rfl) rfl rfl rfl (Nat.le_of_ble_eq_true rfl) rfl ?_
  rw [jd_up_up]
  refine jd_aload_n dX11_init_16 rfl ?_
  refine jd_iconst (v := (-1)) dX11_init_17 (by decide) ?_
  refine jd_put (fs' := [_, _, _, _, _, _, _]) in_X11 tyX11_ok nmX11 jd_up_s 6 q913 dX11_init_18 rfl (Nat.le_of_ble_eq_true rfl) rfl rfl rfl (Nat.le_of_ble_eq_true rfl) rfl ?_
  rw [jd_up_up]
  refine jd_aload_n dX11_init_21 rfl ?_
  refine jd_iload_n dX11_init_22 rfl ?_
  refine jd_putF (fs' := [_, _, _, _, _, _, _]) in_X11 tyX11_ok nmX11 jd_up_s 0 q901 dX11_init_23 rfl (Nat.le_of_ble_eq_true rfl) rfl rfl rfl rfl rfl (Nat.le_of_ble_eq_true rfl) rfl ?_
  rw [jd_up_up]
  refine jd_aload_n dX11_init_26 rfl ?_
  refine jd_iload_n dX11_init_27 rfl ?_
  refine jd_putF (fs' := [_, _, _, _, _, _, _]) in_X11 tyX11_ok nmX11 jd_up_s 1 q903 dX11_init_28 rfl (Nat.le_of_ble_eq_true rfl) rfl rfl rfl rfl rfl (Nat.le_of_ble_eq_true rfl) rfl ?_
  rw [jd_up_up]
  refine jd_aload_n dX11_init_31 rfl ?_
  refine jd_iload_n dX11_init_32 rfl ?_
  refine jd_putF (fs' := [_, _, _, _, _, _, _]) in_X11 tyX11_ok nmX11 jd_up_s 2 q905 dX11_init_33 rfl (Nat.le_of_ble_eq_true rfl) rfl rfl rfl rfl rfl (Nat.le_of_ble_eq_true rfl) rfl ?_
  rw [jd_up_up]
  refine jd_aload_n dX11_init_36 rfl ?_
  refine jd_iload dX11_init_37 rfl ?_
  refine jd_put (fs' := [_, _, _, _, _, _, _]) in_X11 tyX11_ok nmX11 jd_up_s 3 q907 dX11_init_39 rfl (Nat.le_of_ble_eq_true rfl) rfl rfl rfl (Nat.le_of_ble_eq_true rfl) rfl ?_
  rw [jd_up_up]
  exact jd_vret dX11_init_42 rfl ⟨rfl, rfl⟩

set_option maxRecDepth 20000 in
set_option maxHeartbeats 2000000 in
theorem ct_X9_init {G : jd_G} {h : jd_H} {i : jd_Id} {a : Nat} (ho : h i = some (a, .inl (.inr (4, [.int (0), .int (0), .int (0), .int (0), .null, .int (0), .int (0), .null])))) (n l b p : Int32) (hz : b = 0 ∨ b = 1) : jd_Ct G mX9_init 1 (0) (0) [.ref (a), .int (n), .int (l), .int (b), .int (p)] h (jd_vd (jd_up h i (a, .inl (.inr (4, [.int (n), .int (b), .int (l), .int (p), .ref (jd_rA G 0), .int ((-1)), .int (0), .ref (jd_k G 1)]))))) jd_no := by
  refine jd_ct (ls := [some (.ref (a)), some (.int (n)), some (.int (l)), some (.int (b)), some (.int (p))]) rfl rfl (by decide) (Nat.le_of_ble_eq_true rfl) rfl ?_
  refine jd_aload_n dX9_init_0 rfl ?_
  refine jd_oinit q840 q130 q131 dX9_init_1 (Nat.le_of_ble_eq_true rfl) ?_ (Nat.le_of_ble_eq_true rfl)
  refine jd_aload_n dX9_init_4 rfl ?_
  refine jd_gets (jd_zR (k := 0) (by decide) rfl) q841 dX9_init_5 ?_
  refine jd_put (fs' := [_, _, _, _, _, _, _, _]) in_X9 tyX9_ok nmX9 ho 4 q857 dX9_init_8 rfl (Nat.le_of_ble_eq_true rfl) rfl rfl rfl (Nat.le_of_ble_eq_true rfl) rfl ?_
  refine jd_aload_n dX9_init_11 rfl ?_
  refine jd_iconst (v := (-1)) dX9_init_12 (by decide) ?_
  refine jd_put (fs' := [_, _, _, _, _, _, _, _]) in_X9 tyX9_ok nmX9 jd_up_s 5 q859 dX9_init_13 rfl (Nat.le_of_ble_eq_true rfl) rfl rfl rfl (Nat.le_of_ble_eq_true rfl) rfl ?_
  rw [jd_up_up]
  refine jd_aload_n dX9_init_16 rfl ?_
  refine jd_pS (As := []) (rest := [.ref (a)]) ct_J17_empty rfl q843 q844 q108 q845 nJ17_empty dX9_init_17 rfl rfl (Nat.le_of_ble_eq_true rfl) ⟨(Nat.le_of_ble_eq_true rfl), (Nat.le_of_ble_eq_true rfl)⟩ ?_
  refine jd_put (fs' := [_, _, _, _, _, _, _, _]) in_X9 tyX9_ok nmX9 jd_up_s 7 q863 dX9_init_20 rfl (Nat.le_of_ble_eq_true rfl) rfl rfl rfl (Nat.le_of_ble_eq_true rfl) rfl ?_
  rw [jd_up_up]
  refine jd_aload_n dX9_init_23 rfl ?_
  refine jd_iload_n dX9_init_24 rfl ?_
  refine jd_putF (fs' := [_, _, _, _, _, _, _, _]) in_X9 tyX9_ok nmX9 jd_up_s 0 q848 dX9_init_25 rfl (Nat.le_of_ble_eq_true rfl) rfl rfl rfl rfl rfl (Nat.le_of_ble_eq_true rfl) rfl ?_
  rw [jd_up_up]
  refine jd_aload_n dX9_init_28 rfl ?_
  refine jd_iload_n dX9_init_29 rfl ?_
  refine jd_put (fs' := [_, _, _, _, _, _, _, _]) in_X9 tyX9_ok nmX9 jd_up_s 2 q853 dX9_init_30 rfl (Nat.le_of_ble_eq_true rfl) rfl rfl rfl (Nat.le_of_ble_eq_true rfl) rfl ?_
  rw [jd_up_up]
  refine jd_aload_n dX9_init_33 rfl ?_
  refine jd_iload_n dX9_init_34 rfl ?_
  refine jd_putF (fs' := [_, _, _, _, _, _, _, _]) in_X9 tyX9_ok nmX9 jd_up_s 1 q850 dX9_init_35 rfl (Nat.le_of_ble_eq_true rfl) rfl rfl rfl (by rcases hz with e | e <;> (rw [e]; rfl)) (by rcases hz with e | e <;> (rw [e]; rfl)) (Nat.le_of_ble_eq_true rfl) rfl ?_
  rw [jd_up_up]
  refine jd_aload_n dX9_init_38 rfl ?_
  refine jd_iload dX9_init_39 rfl ?_
  refine jd_put (fs' := [_, _, _, _, _, _, _, _]) in_X9 tyX9_ok nmX9 jd_up_s 3 q855 dX9_init_41 rfl (Nat.le_of_ble_eq_true rfl) rfl rfl rfl (Nat.le_of_ble_eq_true rfl) rfl ?_
  rw [jd_up_up]
  exact jd_vret dX9_init_44 rfl ⟨rfl, rfl⟩

set_option maxRecDepth 20000 in
set_option maxHeartbeats 2000000 in
theorem ct_X1_sing {G : jd_G} {β : ll_B} {κ : ll_K} {h : jd_H} (hw : WC G β κ h) (hI : ll_I κ) (s : Int32) (g : Int32) (n : Int32) (v : Int32) : jd_Ct G mX1_sing 12 (6) (34) [.ref (β 0 0), .int (s), .int (g), .int (n), .int (v)] h (jd_op G β h (c_sing κ s g n v) (.int (jd_rem (((13 * nI (tN s)) + (29 * g)) + (7 * n)) 97)) (ll_sp κ (tN s) (some (tN g, tN n, tN v)))) (jd_th h (c_sing κ s g n v) nmA) := by
  obtain ⟨⟨hG8, hS12, hP24, hH40, hN99, hH24⟩, hIg, hIs, hIp, hIh, hIl, hIq⟩ := id hI
  obtain ⟨mcL, hlL⟩ := w_lands hw
  obtain ⟨mcG, hlG⟩ := w_gates hw
  obtain ⟨mcS, hlS⟩ := w_sleepers hw
  obtain ⟨mcP, hlP⟩ := w_parts hw
  obtain ⟨mcH, hlH⟩ := w_hidings hw
  refine jd_ct (ls := [some (.ref (β 0 0)), some (.int (s)), some (.int (g)), some (.int (n)), some (.int (v)), none]) rfl rfl (by decide) (Nat.le_of_ble_eq_true rfl) rfl ?_
  refine jd_aload_n dX1_sing_0 rfl ?_
  refine jd_iload_n dX1_sing_1 rfl ?_
  refine jd_callV (As := [.int (s)]) (rest := []) (ct_X1_sleeperAt hw hI (s)) (jd_rv ((w_this hw)) 0 rfl rfl) rfl q889 q891 qs37 q80 q892 nX1_sleeperAt dX1_sing_2 rfl rfl rfl (Nat.le_of_ble_eq_true rfl) ⟨(Nat.le_of_ble_eq_true rfl), (Nat.le_of_ble_eq_true rfl), by omega, by omega⟩ (fun rv0 hn0 hq0 => ?_) (fun E h2 hx => by obtain ⟨h3, h4, h5⟩ := hx; subst h5; have hx : ¬ _ ∧ True := ⟨h3, trivial⟩; exact jd_xout rfl (jd_th.mk (k := 1) (by unfold c_sing; rw [if_neg hx.1]) (by decide) h4))
  obtain ⟨hb0, k_s, hk_s, rfl, rfl, he0⟩ := hq0
  rw [he0]
  have hT_s := tN_nI (show k_s < 2 ^ 31 by omega)
  refine jd_astore (ls' := [_, _, _, _, _, _]) dX1_sing_5 (Nat.le_of_ble_eq_true rfl) rfl rfl ?_
  refine jd_aload_n dX1_sing_7 rfl ?_
  refine jd_iload_n dX1_sing_8 rfl ?_
  refine jd_callV (As := [.int (g)]) (rest := []) (ct_X1_gateAt hw hI (g)) (jd_rv ((w_this hw)) 0 rfl rfl) rfl q818 q820 qs36 q80 q821 nX1_gateAt dX1_sing_9 rfl rfl rfl (Nat.le_of_ble_eq_true rfl) ⟨(Nat.le_of_ble_eq_true rfl), (Nat.le_of_ble_eq_true rfl), by omega, by omega⟩ (fun rv1 hn1 hq1 => ?_) (fun E h2 hx => by obtain ⟨h3, h4, h5⟩ := hx; subst h5; have hx : ¬ _ ∧ True := ⟨h3, trivial⟩; exact jd_xout rfl (jd_th.mk (k := 1) (by unfold c_sing; (try simp only [hT_s]); rw [if_pos hb0, if_neg hx.1]) (by decide) h4))
  obtain ⟨hb1, k_g, hk_g, rfl, rfl, he1⟩ := hq1
  rw [he1]
  have hT_g := tN_nI (show k_g < 2 ^ 31 by omega)
  refine jd_pop dX1_sing_12 rfl ?_
  refine jd_iload_n dX1_sing_13 rfl ?_
  refine jd_aload_n dX1_sing_14 rfl ?_
  refine jd_get in_X1 ((w_this hw)) 6 q289 dX1_sing_15 rfl (Nat.le_of_ble_eq_true rfl) rfl ?_
  refine jd_bipush (v := 99) dX1_sing_18 (by decide) ?_
  refine jd_callS (As := [.int (n), .int (nI ((nNight κ))), .int (99)]) (rest := []) (ct_X1_mustBeIn (n) (nI ((nNight κ))) (99)) rfl q718 q719 q80 q720 nX1_mustBeIn dX1_sing_20 rfl rfl (Nat.le_of_ble_eq_true rfl) ⟨(Nat.le_of_ble_eq_true rfl), (Nat.le_of_ble_eq_true rfl), by omega, by omega⟩ (fun rv2 hn2 hq2 => ?_) (fun E h2 hx => by obtain ⟨h3, h4, h5⟩ := hx; subst h5; have hx : ¬ _ ∧ True := ⟨h3, trivial⟩; exact jd_xout rfl (jd_th.mk (k := 2) (by unfold c_sing; (try simp only [hT_s, hT_g]); rw [if_pos hb0, if_pos hb1, if_neg hx.1]) (by decide) h4))
  obtain ⟨hb2, rfl, he2⟩ := hq2
  rw [he2]
  obtain ⟨k_n, hk_n, rfl⟩ := inR_ex (lo := (nNight κ)) (hi := 99) hb2 (by omega) (by omega)
  have hT_n := tN_nI (show k_n < 2 ^ 31 by omega)
  refine jd_iload dX1_sing_23 rfl ?_
  refine jd_iconst (v := 0) dX1_sing_25 (by decide) ?_
  refine jd_bipush (v := 96) dX1_sing_26 (by decide) ?_
  refine jd_callS (As := [.int (v), .int (0), .int (96)]) (rest := []) (ct_X1_mustBeIn (v) (0) (96)) rfl q718 q719 q80 q720 nX1_mustBeIn dX1_sing_28 rfl rfl (Nat.le_of_ble_eq_true rfl) ⟨(Nat.le_of_ble_eq_true rfl), (Nat.le_of_ble_eq_true rfl), by omega, by omega⟩ (fun rv3 hn3 hq3 => ?_) (fun E h2 hx => by obtain ⟨h3, h4, h5⟩ := hx; subst h5; have hx : ¬ _ ∧ True := ⟨h3, trivial⟩; exact jd_xout rfl (jd_th.mk (k := 2) (by unfold c_sing; (try simp only [hT_s, hT_g, hT_n]); rw [if_pos hb0, if_pos hb1, if_pos hb2, if_neg hx.1]) (by decide) h4))
  obtain ⟨hb3, rfl, he3⟩ := hq3
  rw [he3]
  obtain ⟨k_v, hk_v, rfl⟩ := inR_ex (lo := 0) (hi := 96) hb3 (by omega) (by omega)
  have hT_v := tN_nI (show k_v < 2 ^ 31 by omega)
  refine jd_aload dX1_sing_31 rfl ?_
  refine jd_new (fs := [.int (0), .int (0), .int (0)]) in_X13 tyX13_ok q505 q948 q113 dX1_sing_33 6 rfl rfl (by omega) (by omega) (fun qp hqp => ?_)
  refine jd_dup dX1_sing_36 rfl ?_
  refine jd_iload_n dX1_sing_37 rfl ?_
  refine jd_iload_n dX1_sing_38 rfl ?_
  refine jd_iload dX1_sing_39 rfl ?_
  refine jd_callI (As := [.int (nI k_g), .int (nI k_n), .int (nI k_v)]) (rest := [.ref (qp), .ref (β 5 k_s)]) (ct_X13_init jd_up_s (nI k_g) (nI k_n) (nI k_v)) rfl rfl q949 q950 q113 q951 nX13_init dX1_sing_41 rfl rfl (Nat.le_of_ble_eq_true rfl) ⟨(Nat.le_of_ble_eq_true rfl), (Nat.le_of_ble_eq_true rfl), by omega, by omega⟩ (fun rv4 hn4 hq4 => ?_) jd_nox
  obtain ⟨rfl, he4⟩ := hq4
  rw [he4, jd_up_up]
  refine jd_callS (As := [.ref (qp)]) (rest := [.ref (β 5 k_s)]) (ct_J17_of (x := qp)) rfl q966 q967 q108 q968 nJ17_of dX1_sing_44 rfl rfl (Nat.le_of_ble_eq_true rfl) ⟨(Nat.le_of_ble_eq_true rfl), (Nat.le_of_ble_eq_true rfl), by omega, by omega⟩ (fun rv5 hn5 hq5 => ?_) jd_nox
  obtain ⟨qo, hqo, rfl, he5⟩ := hq5
  rw [he5]
  refine jd_putN (fs' := [_, _, _, _, _, _, _, _]) in_X9 tyX9_ok nmX9 (jd_tmp (jd_tmp (((w_sleeper hw)) k_s (show k_s < nS κ by omega)))) 7 q864 dX1_sing_47 rfl (Nat.le_of_ble_eq_true rfl) rfl rfl rfl (Nat.le_of_ble_eq_true rfl) rfl ?_
  refine jd_updG (fun h7 hs7 ho7 => ?_)
  have hne : ((0, qp) : jd_Id) ≠ (0, qo) := up2_ne hqo
  have hx7 : ∀ j : jd_Id, j.1 ≠ 0 → j ≠ (7, k_s) → h7 j = h j := fun j h0 h7 => (ho7 j h7).trans ((jd_up_n (fun z => h0 (by rw [z]))).trans (jd_up_n (fun z => h0 (by rw [z]))))
  have hz7 : ∀ (a : Nat) (y : Nat × jd_E), h (0, a) = some y → h7 (0, a) = some y := fun a y e => (ho7 _ (fun z => by cases z)).trans (jd_tmp_keep hqo _ _ (jd_tmp_keep hqp _ _ e))
  have hw7 := wu_sPassS hw hk_s (q := (k_g, k_n, k_v)) hs7 ((ho7 _ (fun z => by cases z)).trans jd_up_s) ((ho7 _ (fun z => by cases z)).trans ((jd_up_n hne).trans jd_up_s)) hx7 hz7
  refine jd_aload dX1_sing_50 rfl ?_
  refine jd_iload_n dX1_sing_52 rfl ?_
  refine jd_iload_n dX1_sing_53 rfl ?_
  have ff8 := w_sleeper hw7
  refine jd_pV (As := [.int (nI k_g), .int (nI k_n)]) (rest := []) (ct_X9_right (ff8 k_s (show k_s < nS κ by omega)) (nI k_g) (nI k_n)) (jd_rv (ff8 k_s (show k_s < nS κ by omega)) 4 rfl rfl) rfl q506 q507 q508 q105 q509 nX9_right dX1_sing_54 rfl rfl rfl (Nat.le_of_ble_eq_true rfl) ⟨(Nat.le_of_ble_eq_true rfl), (Nat.le_of_ble_eq_true rfl)⟩ ?_
  exact jd_iret dX1_sing_57 rfl ⟨by unfold c_sing; (try simp only [hT_s, hT_g, hT_n, hT_v]); rw [if_pos hb0, if_pos hb1, if_pos hb2, if_pos hb3], by first | rfl | (simp only [hT_s, hT_g, hT_n, hT_v]; done) | (simp only [hT_s, hT_g, hT_n, hT_v]; rfl), (ll_bu (ll_bu β 6 k_s qo) 7 k_s qp), rfl, (by first | exact hw7 | (simp only [hT_s, hT_g, hT_n, hT_v]; exact hw7)), (fun j hj => ((fun j (hj : 20 ≤ j.1) => hx7 j (fun z => by omega) (ll_nek (by decide) hj)) j hj))⟩

set_option maxRecDepth 20000 in
set_option maxHeartbeats 2000000 in
theorem ct_X1_sleeper {G : jd_G} {β : ll_B} {κ : ll_K} {h : jd_H} (hw : WC G β κ h) (hI : ll_I κ) (l : Int32) (p : Int32) (b : Bool) : jd_Ct G mX1_sleeper 12 (6) (70) [.ref (β 0 0), .int (l), .int (jd_b (b = true)), .int (p)] h (jd_op G β h (c_sleeper κ l p) (.int (nI (nS κ))) (k_addS κ (tN l) b p)) (jd_th h (c_sleeper κ l p) nmA) := by
  obtain ⟨⟨hG8, hS12, hP24, hH40, hN99, hH24⟩, hIg, hIs, hIp, hIh, hIl, hIq⟩ := id hI
  obtain ⟨mcL, hlL⟩ := w_lands hw
  obtain ⟨mcG, hlG⟩ := w_gates hw
  obtain ⟨mcS, hlS⟩ := w_sleepers hw
  obtain ⟨mcP, hlP⟩ := w_parts hw
  obtain ⟨mcH, hlH⟩ := w_hidings hw
  refine jd_ct (ls := [some (.ref (β 0 0)), some (.int (l)), some (.int (jd_b (b = true))), some (.int (p))]) rfl rfl (by decide) (Nat.le_of_ble_eq_true rfl) rfl ?_
  refine jd_iload_n dX1_sleeper_0 rfl ?_
  refine jd_bipush (v := 6) dX1_sleeper_1 (by decide) ?_
  refine jd_callS (As := [.int (l), .int (6)]) (rest := []) (ct_X1_checkPlace (l) (6)) rfl q694 q695 q80 q696 nX1_checkPlace dX1_sleeper_3 rfl rfl (Nat.le_of_ble_eq_true rfl) ⟨(Nat.le_of_ble_eq_true rfl), (Nat.le_of_ble_eq_true rfl), by omega, by omega⟩ (fun rv0 hn0 hq0 => ?_) (fun E h2 hx => by obtain ⟨h3, h4, h5⟩ := hx; subst h5; have hx : ¬ _ ∧ True := ⟨h3, trivial⟩; exact jd_xout rfl (jd_th.mk (k := 1) (by unfold c_sleeper; rw [if_neg hx.1]) (by decide) h4))
  obtain ⟨hb0, rfl, he0⟩ := hq0
  rw [he0]
  obtain ⟨k_l, hk_l, rfl⟩ := inN_ex (n := 6) (by decide) hb0
  have hT_l := tN_nI (show k_l < 2 ^ 31 by omega)
  refine jd_iload_n dX1_sleeper_6 rfl ?_
  refine jd_iconst (v := 1) dX1_sleeper_7 (by decide) ?_
  refine jd_bipush (v := 9) dX1_sleeper_8 (by decide) ?_
  refine jd_callS (As := [.int (p), .int (1), .int (9)]) (rest := []) (ct_X1_mustBeIn (p) (1) (9)) rfl q718 q719 q80 q720 nX1_mustBeIn dX1_sleeper_10 rfl rfl (Nat.le_of_ble_eq_true rfl) ⟨(Nat.le_of_ble_eq_true rfl), (Nat.le_of_ble_eq_true rfl), by omega, by omega⟩ (fun rv1 hn1 hq1 => ?_) (fun E h2 hx => by obtain ⟨h3, h4, h5⟩ := hx; subst h5; have hx : ¬ _ ∧ True := ⟨h3, trivial⟩; exact jd_xout rfl (jd_th.mk (k := 2) (by unfold c_sleeper; (try simp only [hT_l]); rw [if_pos hb0, if_neg hx.1]) (by decide) h4))
  obtain ⟨hb1, rfl, he1⟩ := hq1
  rw [he1]
  refine jd_aload_n dX1_sleeper_13 rfl ?_
  refine jd_get in_X1 ((w_this hw)) 2 q285 dX1_sleeper_14 rfl (Nat.le_of_ble_eq_true rfl) rfl ?_
  refine jd_pF (n := 0) (As := []) (rest := []) (ct_J2_size hlS (show nS κ ≤ 900 by omega)) (jd_rv hlS 15 rfl rfl) (ci := 15) rfl (List.mem_of_getElem? (i := 2) rfl) rfl q339 q342 q344 q83 q346 q341 q345 q343 q207 ⟨by decide, by decide, by decide +kernel⟩ dX1_sleeper_17 rfl rfl (Nat.le_of_ble_eq_true rfl) ⟨(Nat.le_of_ble_eq_true rfl), (Nat.le_of_ble_eq_true rfl)⟩ ?_
  refine jd_bipush (v := 12) dX1_sleeper_22 (by decide) ?_
  refine jd_mg2 32 (.int (jd_b ((¬ (12 ≤ nS κ))))) (fun hj3 => ?_) ?_
  · refine jd_ncmp_ge (a := nS κ) (b := 12) (tgt := 31) dX1_sleeper_24 (by decide) (by omega) (by omega) (fun z4 => ?_) (fun z5 => ?_)
    · refine jd_iconst (v := 0) dX1_sleeper_31 (by decide) ?_
      exact jd_top (congrArg Value.int (jd_b0 (fun w => w z4)).symm) hj3
    · refine jd_iconst (v := 1) dX1_sleeper_27 (by decide) ?_
      refine jd_goto (tgt := 32) dX1_sleeper_28 (by decide) ?_
      exact jd_top (congrArg Value.int (jd_b1 (Nat.not_le.mpr z5)).symm) hj3
  · refine jd_callS (As := [.int (jd_b ((¬ (12 ≤ nS κ))))]) (rest := []) (ct_X1_checkState ((¬ (12 ≤ nS κ)))) rfl q747 q748 q80 q749 nX1_checkState dX1_sleeper_32 rfl rfl (Nat.le_of_ble_eq_true rfl) ⟨(Nat.le_of_ble_eq_true rfl), (Nat.le_of_ble_eq_true rfl), by omega, by omega⟩ (fun rv5 hn5 hq5 => ?_) (fun E h2 hx => by obtain ⟨h3, h4, h5⟩ := hx; subst h5; have hx : ¬ _ ∧ True := ⟨h3, trivial⟩; exact jd_xout rfl (jd_th.mk (k := 3) (by unfold c_sleeper; (try simp only [hT_l]); rw [if_pos hb0, if_pos hb1, if_neg hx.1]) (by decide) h4))
    obtain ⟨hb5, rfl, he5⟩ := hq5
    rw [he5]
    refine jd_aload_n dX1_sleeper_35 rfl ?_
    refine jd_get in_X1 ((w_this hw)) 2 q285 dX1_sleeper_36 rfl (Nat.le_of_ble_eq_true rfl) rfl ?_
    refine jd_new (fs := [.int (0), .int (0), .int (0), .int (0), .null, .int (0), .int (0), .null]) in_X9 tyX9_ok q352 q836 q105 dX1_sleeper_39 4 rfl rfl (by omega) (by omega) (fun qp hqp => ?_)
    refine jd_dup dX1_sleeper_42 rfl ?_
    refine jd_aload_n dX1_sleeper_43 rfl ?_
    refine jd_get in_X1 (jd_tmp ((w_this hw))) 2 q285 dX1_sleeper_44 rfl (Nat.le_of_ble_eq_true rfl) rfl ?_
    refine jd_pF (n := 0) (As := []) (rest := [.ref (qp), .ref (qp), .ref (β 0 4)]) (ct_J2_size (jd_tmp hlS) (show nS κ ≤ 900 by omega)) (jd_rv (jd_tmp hlS) 15 rfl rfl) (ci := 15) rfl (List.mem_of_getElem? (i := 2) rfl) rfl q339 q342 q344 q83 q346 q341 q345 q343 q207 ⟨by decide, by decide, by decide +kernel⟩ dX1_sleeper_47 rfl rfl (Nat.le_of_ble_eq_true rfl) ⟨(Nat.le_of_ble_eq_true rfl), (Nat.le_of_ble_eq_true rfl)⟩ ?_
    refine jd_iload_n dX1_sleeper_52 rfl ?_
    refine jd_iload_n dX1_sleeper_53 rfl ?_
    refine jd_iload_n dX1_sleeper_54 rfl ?_
    refine jd_callI (As := [.int (nI (nS κ)), .int (nI k_l), .int (jd_b (b = true)), .int (p)]) (rest := [.ref (qp), .ref (β 0 4)]) (ct_X9_init jd_up_s (nI (nS κ)) (nI k_l) (jd_b (b = true)) (p) (jd_b01 _)) rfl rfl q837 q838 q105 q839 nX9_init dX1_sleeper_55 rfl rfl (Nat.le_of_ble_eq_true rfl) ⟨(Nat.le_of_ble_eq_true rfl), (Nat.le_of_ble_eq_true rfl), by omega, by omega⟩ (fun rv6 hn6 hq6 => ?_) jd_nox
    obtain ⟨rfl, he6⟩ := hq6
    rw [he6, jd_up_up]
    refine jd_callF (n := 1) (As := [.ref (qp)]) (rest := []) (ct_J2_add (jd_tmp hlS) (show nS κ ≤ 600 by omega) (Cn := "Lullabygate$Sleeper") q2019 (fun k hk => obT hqp (Or.inl ⟨_, _, 4, _, (w_sleeper hw k hk), rfl, rfl, rfl⟩)) (Or.inl ⟨(0, qp), _, 4, _, jd_up_s, rfl, rfl, rfl⟩)) (jd_rv (jd_tmp hlS) 15 rfl rfl) (ci := 15) rfl (List.mem_of_getElem? (i := 0) rfl) rfl q204 q208 q210 q83 q212 q206 q211 q209 q207 ⟨by decide, by decide, by decide +kernel⟩ dX1_sleeper_58 rfl rfl (Nat.le_of_ble_eq_true rfl) ⟨(Nat.le_of_ble_eq_true rfl), (Nat.le_of_ble_eq_true rfl), by omega, by omega⟩ (fun rv7 hn7 hq7 => ?_) jd_nox
    obtain ⟨rfl, he7⟩ := hq7
    rw [he7]
    refine jd_ren (i := (0, qp)) (j := (7, nS κ)) ((jd_up_n (by intro z; cases z)).trans jd_up_s) ((jd_up_n (by intro z; cases z)).trans ((jd_up_n (by intro z; cases z)).trans ((w_free hw (nS κ)).2.1 (Nat.le_refl _)))) (by simp) ?_
    refine jd_gen (fun h3 => WC G (ll_bu (ll_bu β 5 (nS κ) qp) 6 (nS κ) (jd_k G 1)) (k_addS κ k_l b p) h3 ∧ ∀ j : jd_Id, 20 ≤ j.1 → h3 j = h j) ?_ (fun h3 hw3 => ?_)
    · obtain ⟨a1, a2, a3, a4⟩ := add_ren hqp (li := (2, 2)) (ni := (7, nS κ)) (by decide) (by simp) (by intro z; cases z)
      exact ⟨wu_addS hw hI (by omega) a1 ⟨_, a2⟩ a3 a4, fun j hj => a3 j (fun z => by omega) (ll_nek (by decide) hj) (ll_nek (by decide) hj)⟩
    obtain ⟨hw4, hfr⟩ := hw3
    refine jd_pop dX1_sleeper_63 rfl ?_
    refine jd_aload_n dX1_sleeper_64 rfl ?_
    have ff9 := w_this hw4
    refine jd_get in_X1 ff9 2 q285 dX1_sleeper_65 rfl (Nat.le_of_ble_eq_true rfl) rfl ?_
    obtain ⟨mcl10, hl10_⟩ := w_sleepers hw4
    refine jd_pF (n := 0) (As := []) (rest := []) (ct_J2_size hl10_ (show (nS κ + 1) ≤ 900 by omega)) (jd_rv hl10_ 15 rfl rfl) (ci := 15) rfl (List.mem_of_getElem? (i := 2) rfl) rfl q339 q342 q344 q83 q346 q341 q345 q343 q207 ⟨by decide, by decide, by decide +kernel⟩ dX1_sleeper_68 rfl rfl (Nat.le_of_ble_eq_true rfl) ⟨(Nat.le_of_ble_eq_true rfl), (Nat.le_of_ble_eq_true rfl)⟩ ?_
    refine jd_iconst (v := 1) dX1_sleeper_73 (by decide) ?_
    refine jd_isubN (a := (nS κ + 1)) (b := 1) dX1_sleeper_74 (by omega) ?_
    exact jd_iret dX1_sleeper_75 rfl ⟨by unfold c_sleeper; (try simp only [hT_l]); rw [if_pos hb0, if_pos hb1, if_pos hb5], by first | rfl | (simp only [hT_l]; done) | (simp only [hT_l]; rfl), (ll_bu (ll_bu β 5 (nS κ) qp) 6 (nS κ) (jd_k G 1)), rfl, (by first | exact hw4 | (simp only [hT_l]; exact hw4)), (fun j hj => (hfr j hj))⟩

set_option maxRecDepth 20000 in
set_option maxHeartbeats 2000000 in
theorem ct_X1_part {G : jd_G} {β : ll_B} {κ : ll_K} {h : jd_H} (hw : WC G β κ h) (hI : ll_I κ) (s : Int32) (e : Int32) (w : Int32) (x : Int32) : jd_Ct G mX1_part 12 (8) (100) [.ref (β 0 0), .int (s), .int (e), .int (w), .int (x)] h (jd_op G β h (c_part κ s e w x) (.int (nI (nP κ))) (k_addP κ (tN e) w x (tN s))) (jd_th h (c_part κ s e w x) nmA) := by
  obtain ⟨⟨hG8, hS12, hP24, hH40, hN99, hH24⟩, hIg, hIs, hIp, hIh, hIl, hIq⟩ := id hI
  obtain ⟨mcL, hlL⟩ := w_lands hw
  obtain ⟨mcG, hlG⟩ := w_gates hw
  obtain ⟨mcS, hlS⟩ := w_sleepers hw
  obtain ⟨mcP, hlP⟩ := w_parts hw
  obtain ⟨mcH, hlH⟩ := w_hidings hw
  refine jd_ct (ls := [some (.ref (β 0 0)), some (.int (s)), some (.int (e)), some (.int (w)), some (.int (x)), none]) rfl rfl (by decide) (Nat.le_of_ble_eq_true rfl) rfl ?_
  refine jd_aload_n dX1_part_0 rfl ?_
  refine jd_iload_n dX1_part_1 rfl ?_
  refine jd_callV (As := [.int (s)]) (rest := []) (ct_X1_sleeperAt hw hI (s)) (jd_rv ((w_this hw)) 0 rfl rfl) rfl q889 q891 qs37 q80 q892 nX1_sleeperAt dX1_part_2 rfl rfl rfl (Nat.le_of_ble_eq_true rfl) ⟨(Nat.le_of_ble_eq_true rfl), (Nat.le_of_ble_eq_true rfl), by omega, by omega⟩ (fun rv0 hn0 hq0 => ?_) (fun E h2 hx => by obtain ⟨h3, h4, h5⟩ := hx; subst h5; have hx : ¬ _ ∧ True := ⟨h3, trivial⟩; exact jd_xout rfl (jd_th.mk (k := 1) (by unfold c_part; rw [if_neg hx.1]) (by decide) h4))
  obtain ⟨hb0, k_s, hk_s, rfl, rfl, he0⟩ := hq0
  rw [he0]
  have hT_s := tN_nI (show k_s < 2 ^ 31 by omega)
  have hs1 := hIs k_s hk_s
  have hs2 := hs1.2.1
  refine jd_astore (ls' := [_, _, _, _, _, _]) dX1_part_5 (Nat.le_of_ble_eq_true rfl) rfl rfl ?_
  refine jd_iload_n dX1_part_7 rfl ?_
  refine jd_iconst (v := 0) dX1_part_8 (by decide) ?_
  refine jd_bipush (v := 7) dX1_part_9 (by decide) ?_
  refine jd_callS (As := [.int (e), .int (0), .int (7)]) (rest := []) (ct_X1_mustBeIn (e) (0) (7)) rfl q718 q719 q80 q720 nX1_mustBeIn dX1_part_11 rfl rfl (Nat.le_of_ble_eq_true rfl) ⟨(Nat.le_of_ble_eq_true rfl), (Nat.le_of_ble_eq_true rfl), by omega, by omega⟩ (fun rv1 hn1 hq1 => ?_) (fun E h2 hx => by obtain ⟨h3, h4, h5⟩ := hx; subst h5; have hx : ¬ _ ∧ True := ⟨h3, trivial⟩; exact jd_xout rfl (jd_th.mk (k := 2) (by unfold c_part; (try simp only [hT_s]); rw [if_pos hb0, if_neg hx.1]) (by decide) h4))
  obtain ⟨hb1, rfl, he1⟩ := hq1
  rw [he1]
  obtain ⟨k_e, hk_e, rfl⟩ := inR_ex (lo := 0) (hi := 7) hb1 (by omega) (by omega)
  have hT_e := tN_nI (show k_e < 2 ^ 31 by omega)
  refine jd_iload_n dX1_part_14 rfl ?_
  refine jd_iconst (v := 0) dX1_part_15 (by decide) ?_
  refine jd_bipush (v := 99) dX1_part_16 (by decide) ?_
  refine jd_callS (As := [.int (w), .int (0), .int (99)]) (rest := []) (ct_X1_mustBeIn (w) (0) (99)) rfl q718 q719 q80 q720 nX1_mustBeIn dX1_part_18 rfl rfl (Nat.le_of_ble_eq_true rfl) ⟨(Nat.le_of_ble_eq_true rfl), (Nat.le_of_ble_eq_true rfl), by omega, by omega⟩ (fun rv2 hn2 hq2 => ?_) (fun E h2 hx => by obtain ⟨h3, h4, h5⟩ := hx; subst h5; have hx : ¬ _ ∧ True := ⟨h3, trivial⟩; exact jd_xout rfl (jd_th.mk (k := 2) (by unfold c_part; (try simp only [hT_s, hT_e]); rw [if_pos hb0, if_pos hb1, if_neg hx.1]) (by decide) h4))
  obtain ⟨hb2, rfl, he2⟩ := hq2
  rw [he2]
  refine jd_iload dX1_part_21 rfl ?_
  refine jd_iconst (v := 0) dX1_part_23 (by decide) ?_
  refine jd_bipush (v := 9) dX1_part_24 (by decide) ?_
  refine jd_callS (As := [.int (x), .int (0), .int (9)]) (rest := []) (ct_X1_mustBeIn (x) (0) (9)) rfl q718 q719 q80 q720 nX1_mustBeIn dX1_part_26 rfl rfl (Nat.le_of_ble_eq_true rfl) ⟨(Nat.le_of_ble_eq_true rfl), (Nat.le_of_ble_eq_true rfl), by omega, by omega⟩ (fun rv3 hn3 hq3 => ?_) (fun E h2 hx => by obtain ⟨h3, h4, h5⟩ := hx; subst h5; have hx : ¬ _ ∧ True := ⟨h3, trivial⟩; exact jd_xout rfl (jd_th.mk (k := 2) (by unfold c_part; (try simp only [hT_s, hT_e]); rw [if_pos hb0, if_pos hb1, if_pos hb2, if_neg hx.1]) (by decide) h4))
  obtain ⟨hb3, rfl, he3⟩ := hq3
  rw [he3]
  refine jd_aload_n dX1_part_29 rfl ?_
  refine jd_get in_X1 ((w_this hw)) 3 q286 dX1_part_30 rfl (Nat.le_of_ble_eq_true rfl) rfl ?_
  refine jd_pF (n := 0) (As := []) (rest := []) (ct_J2_size hlP (show nP κ ≤ 900 by omega)) (jd_rv hlP 15 rfl rfl) (ci := 15) rfl (List.mem_of_getElem? (i := 2) rfl) rfl q339 q342 q344 q83 q346 q341 q345 q343 q207 ⟨by decide, by decide, by decide +kernel⟩ dX1_part_33 rfl rfl (Nat.le_of_ble_eq_true rfl) ⟨(Nat.le_of_ble_eq_true rfl), (Nat.le_of_ble_eq_true rfl)⟩ ?_
  refine jd_bipush (v := 24) dX1_part_38 (by decide) ?_
  refine jd_mg2 59 (.int (jd_b ((¬ (24 ≤ nP κ) ∧ ((sRest κ k_s = 0)))))) (fun hj5 => ?_) ?_
  · refine jd_ncmp_ge (a := nP κ) (b := 24) (tgt := 58) dX1_part_40 (by decide) (by omega) (by omega) (fun z6 => ?_) (fun z7 => ?_)
    · refine jd_iconst (v := 0) dX1_part_58 (by decide) ?_
      exact jd_top (congrArg Value.int (jd_b0 (fun w => w.1 z6)).symm) hj5
    · refine jd_aload dX1_part_43 rfl ?_
      refine jd_gets (jd_zR (k := 0) (by decide) rfl) q893 dX1_part_45 ?_
      refine jd_pV (As := [.ref (jd_rA G 0)]) (rest := []) (ct_X9_is (((w_sleeper hw)) k_s (show k_s < nS κ by omega)) (r := sRest κ k_s) (q := 0) (by omega) (by decide)) (jd_rv (((w_sleeper hw)) k_s (show k_s < nS κ by omega)) 4 rfl rfl) rfl q355 q356 q357 q105 q358 nX9_is dX1_part_48 rfl rfl rfl (Nat.le_of_ble_eq_true rfl) ⟨(Nat.le_of_ble_eq_true rfl), (Nat.le_of_ble_eq_true rfl)⟩ ?_
      refine jd_bif_eq (tgt := 58) dX1_part_51 (by decide) (fun z8 => ?_) (fun z9 => ?_)
      · refine jd_iconst (v := 0) dX1_part_58 (by decide) ?_
        exact jd_top (congrArg Value.int (jd_b0 (fun w => z8 w.2)).symm) hj5
      · refine jd_iconst (v := 1) dX1_part_54 (by decide) ?_
        refine jd_goto (tgt := 59) dX1_part_55 (by decide) ?_
        exact jd_top (congrArg Value.int (jd_b1 ⟨(Nat.not_le.mpr z7), z9⟩).symm) hj5
  · refine jd_callS (As := [.int (jd_b ((¬ (24 ≤ nP κ) ∧ ((sRest κ k_s = 0)))))]) (rest := []) (ct_X1_checkState ((¬ (24 ≤ nP κ) ∧ ((sRest κ k_s = 0))))) rfl q747 q748 q80 q749 nX1_checkState dX1_part_59 rfl rfl (Nat.le_of_ble_eq_true rfl) ⟨(Nat.le_of_ble_eq_true rfl), (Nat.le_of_ble_eq_true rfl), by omega, by omega⟩ (fun rv9 hn9 hq9 => ?_) (fun E h2 hx => by obtain ⟨h3, h4, h5⟩ := hx; subst h5; have hx : ¬ _ ∧ True := ⟨h3, trivial⟩; exact jd_xout rfl (jd_th.mk (k := 3) (by unfold c_part; (try simp only [hT_s, hT_e]); rw [if_pos hb0, if_pos hb1, if_pos hb2, if_pos hb3, if_neg hx.1]) (by decide) h4))
    obtain ⟨hb9, rfl, he9⟩ := hq9
    rw [he9]
    refine jd_aload_n dX1_part_62 rfl ?_
    refine jd_get in_X1 ((w_this hw)) 3 q286 dX1_part_63 rfl (Nat.le_of_ble_eq_true rfl) rfl ?_
    refine jd_new (fs := [.int (0), .int (0), .int (0), .int (0), .int (0), .null, .int (0)]) in_X11 tyX11_ok q377 q894 q110 dX1_part_66 5 rfl rfl (by omega) (by omega) (fun qp hqp => ?_)
    refine jd_dup dX1_part_69 rfl ?_
    refine jd_iload_n dX1_part_70 rfl ?_
    refine jd_iload_n dX1_part_71 rfl ?_
    refine jd_iload dX1_part_72 rfl ?_
    refine jd_iload_n dX1_part_74 rfl ?_
    refine jd_callI (As := [.int (nI k_e), .int (w), .int (x), .int (nI k_s)]) (rest := [.ref (qp), .ref (β 0 5)]) (ct_X11_init jd_up_s (nI k_e) (w) (x) (nI k_s)) rfl rfl q895 q896 q110 q897 nX11_init dX1_part_75 rfl rfl (Nat.le_of_ble_eq_true rfl) ⟨(Nat.le_of_ble_eq_true rfl), (Nat.le_of_ble_eq_true rfl), by omega, by omega⟩ (fun rv10 hn10 hq10 => ?_) jd_nox
    obtain ⟨rfl, he10⟩ := hq10
    rw [he10, jd_up_up]
    refine jd_callF (n := 1) (As := [.ref (qp)]) (rest := []) (ct_J2_add (jd_tmp hlP) (show nP κ ≤ 600 by omega) (Cn := "Lullabygate$Part") q2023 (fun k hk => obT hqp (Or.inl ⟨_, _, 5, _, (w_part hw k hk), rfl, rfl, rfl⟩)) (Or.inl ⟨(0, qp), _, 5, _, jd_up_s, rfl, rfl, rfl⟩)) (jd_rv (jd_tmp hlP) 15 rfl rfl) (ci := 15) rfl (List.mem_of_getElem? (i := 0) rfl) rfl q204 q208 q210 q83 q212 q206 q211 q209 q207 ⟨by decide, by decide, by decide +kernel⟩ dX1_part_78 rfl rfl (Nat.le_of_ble_eq_true rfl) ⟨(Nat.le_of_ble_eq_true rfl), (Nat.le_of_ble_eq_true rfl), by omega, by omega⟩ (fun rv11 hn11 hq11 => ?_) jd_nox
    obtain ⟨rfl, he11⟩ := hq11
    rw [he11]
    refine jd_ren (i := (0, qp)) (j := (10, nP κ)) ((jd_up_n (by intro z; cases z)).trans jd_up_s) ((jd_up_n (by intro z; cases z)).trans ((jd_up_n (by intro z; cases z)).trans ((w_free hw (nP κ)).2.2 (Nat.le_refl _)))) (by simp) ?_
    refine jd_gen (fun h3 => WC G (ll_bu β 8 (nP κ) qp) (k_addP κ k_e w x k_s) h3 ∧ ∀ j : jd_Id, 20 ≤ j.1 → h3 j = h j) ?_ (fun h3 hw3 => ?_)
    · obtain ⟨a1, a2, a3, a4⟩ := add_ren hqp (li := (2, 3)) (ni := (10, nP κ)) (by decide) (by simp) (by intro z; cases z)
      exact ⟨wu_addP hw a1 ⟨_, a2⟩ a3 a4, fun j hj => a3 j (fun z => by omega) (ll_nek (by decide) hj) (ll_nek (by decide) hj)⟩
    obtain ⟨hw4, hfr⟩ := hw3
    refine jd_pop dX1_part_83 rfl ?_
    refine jd_aload_n dX1_part_84 rfl ?_
    have ff13 := w_this hw4
    refine jd_get in_X1 ff13 3 q286 dX1_part_85 rfl (Nat.le_of_ble_eq_true rfl) rfl ?_
    obtain ⟨mcl14, hl14_⟩ := w_parts hw4
    refine jd_pF (n := 0) (As := []) (rest := []) (ct_J2_size hl14_ (show (nP κ + 1) ≤ 900 by omega)) (jd_rv hl14_ 15 rfl rfl) (ci := 15) rfl (List.mem_of_getElem? (i := 2) rfl) rfl q339 q342 q344 q83 q346 q341 q345 q343 q207 ⟨by decide, by decide, by decide +kernel⟩ dX1_part_88 rfl rfl (Nat.le_of_ble_eq_true rfl) ⟨(Nat.le_of_ble_eq_true rfl), (Nat.le_of_ble_eq_true rfl)⟩ ?_
    refine jd_iconst (v := 1) dX1_part_93 (by decide) ?_
    refine jd_isubN (a := (nP κ + 1)) (b := 1) dX1_part_94 (by omega) ?_
    exact jd_iret dX1_part_95 rfl ⟨by unfold c_part; (try simp only [hT_s, hT_e]); rw [if_pos hb0, if_pos hb1, if_pos hb2, if_pos hb3, if_pos hb9], by first | rfl | (simp only [hT_s, hT_e]; done) | (simp only [hT_s, hT_e]; rfl), (ll_bu β 8 (nP κ) qp), rfl, (by first | exact hw4 | (simp only [hT_s, hT_e]; exact hw4)), (fun j hj => (hfr j hj))⟩
