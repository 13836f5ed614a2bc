/-! the model: calls (printed by mk_c.py) -/
set_option maxRecDepth 20000 in
set_option maxHeartbeats 2000000 in
theorem ct_X4_isLand {G : jd_G} {γ : ll_B} {κ : ll_K} {μ : ll_U} {h : jd_H} (hw : WM G γ κ μ h) (hI : ll_I κ) (x : Int32) : jd_Ct G mX4_isLand 1 (0) (0) [.ref (γ 0 0), .int (x)] h (jd_pu h (.int (jd_b (inN x 6)))) jd_no := by
  obtain ⟨⟨hG8, hS12, hP24, hH40, hN99, hH24⟩, hIg, hIs, hIp, hIh, hIl, hIq⟩ := id hI
  obtain ⟨mcG, hlG⟩ := w_mgates hw
  obtain ⟨mcS, hlS⟩ := w_msleepers hw
  obtain ⟨mcP, hlP⟩ := w_mparts hw
  obtain ⟨mcH, hlH⟩ := w_mhidings hw
  refine jd_ct (ls := [some (.ref (γ 0 0)), some (.int (x))]) rfl rfl (by decide) (Nat.le_of_ble_eq_true rfl) rfl ?_
  refine jd_iload_n dX4_isLand_0 rfl ?_
  refine jd_iconst (v := 0) dX4_isLand_1 (by decide) ?_
  refine jd_iconst (v := 5) dX4_isLand_2 (by decide) ?_
  refine jd_pS (As := [.int (x), .int (0), .int (5)]) (rest := []) (ct_X4_is (x) (0) (5)) rfl q1518 q1519 q90 q1520 nX4_is dX4_isLand_3 rfl rfl (Nat.le_of_ble_eq_true rfl) ⟨(Nat.le_of_ble_eq_true rfl), (Nat.le_of_ble_eq_true rfl)⟩ ?_
  exact jd_zret dX4_isLand_6 rfl (jd_b01 _) ⟨congrArg (fun x => some (Value.int x)) (jd_bcong in6), rfl⟩

set_option maxRecDepth 20000 in
set_option maxHeartbeats 2000000 in
theorem ct_X4_isGate {G : jd_G} {γ : ll_B} {κ : ll_K} {μ : ll_U} {h : jd_H} (hw : WM G γ κ μ h) (hI : ll_I κ) (x : Int32) : jd_Ct G mX4_isGate 1 (0) (0) [.ref (γ 0 0), .int (x)] h (jd_pu h (.int (jd_b (inN x (nG κ))))) jd_no := by
  obtain ⟨⟨hG8, hS12, hP24, hH40, hN99, hH24⟩, hIg, hIs, hIp, hIh, hIl, hIq⟩ := id hI
  obtain ⟨mcG, hlG⟩ := w_mgates hw
  obtain ⟨mcS, hlS⟩ := w_msleepers hw
  obtain ⟨mcP, hlP⟩ := w_mparts hw
  obtain ⟨mcH, hlH⟩ := w_mhidings hw
  refine jd_ct (ls := [some (.ref (γ 0 0)), some (.int (x))]) rfl rfl (by decide) (Nat.le_of_ble_eq_true rfl) rfl ?_
  refine jd_iload_n dX4_isGate_0 rfl ?_
  refine jd_iconst (v := 0) dX4_isGate_1 (by decide) ?_
  refine jd_aload_n dX4_isGate_2 rfl ?_
  refine jd_get in_X4 (w_mthis hw) 7 q1473 dX4_isGate_3 rfl (Nat.le_of_ble_eq_true rfl) rfl ?_
  refine jd_pV (As := []) (rest := [.int (0), .int (x)]) (ct_J2_size hlG (show nG κ ≤ 900 by omega)) (jd_rv hlG 15 rfl rfl) rfl q1533 q344 q1999 q83 q346 nJ2_size dX4_isGate_6 rfl rfl rfl (Nat.le_of_ble_eq_true rfl) ⟨(Nat.le_of_ble_eq_true rfl), (Nat.le_of_ble_eq_true rfl)⟩ ?_
  refine jd_iconst (v := 1) dX4_isGate_9 (by decide) ?_
  refine jd_isub dX4_isGate_10 ?_
  refine jd_pS (As := [.int (x), .int (0), .int ((nI (nG κ) - 1))]) (rest := []) (ct_X4_is (x) (0) ((nI (nG κ) - 1))) rfl q1518 q1519 q90 q1520 nX4_is dX4_isGate_11 rfl rfl (Nat.le_of_ble_eq_true rfl) ⟨(Nat.le_of_ble_eq_true rfl), (Nat.le_of_ble_eq_true rfl)⟩ ?_
  exact jd_zret dX4_isGate_14 rfl (jd_b01 _) ⟨congrArg (fun x => some (Value.int x)) (jd_bcong (inNn (by omega))), rfl⟩

set_option maxRecDepth 20000 in
set_option maxHeartbeats 2000000 in
theorem ct_X4_isSleeper {G : jd_G} {γ : ll_B} {κ : ll_K} {μ : ll_U} {h : jd_H} (hw : WM G γ κ μ h) (hI : ll_I κ) (x : Int32) : jd_Ct G mX4_isSleeper 1 (0) (0) [.ref (γ 0 0), .int (x)] h (jd_pu h (.int (jd_b (inN x (nS κ))))) jd_no := by
  obtain ⟨⟨hG8, hS12, hP24, hH40, hN99, hH24⟩, hIg, hIs, hIp, hIh, hIl, hIq⟩ := id hI
  obtain ⟨mcG, hlG⟩ := w_mgates hw
  obtain ⟨mcS, hlS⟩ := w_msleepers hw
  obtain ⟨mcP, hlP⟩ := w_mparts hw
  obtain ⟨mcH, hlH⟩ := w_mhidings hw
  refine jd_ct (ls := [some (.ref (γ 0 0)), some (.int (x))]) rfl rfl (by decide) (Nat.le_of_ble_eq_true rfl) rfl ?_
  refine jd_iload_n dX4_isSleeper_0 rfl ?_
  refine jd_iconst (v := 0) dX4_isSleeper_1 (by decide) ?_
  refine jd_aload_n dX4_isSleeper_2 rfl ?_
  refine jd_get in_X4 (w_mthis hw) 8 q1474 dX4_isSleeper_3 rfl (Nat.le_of_ble_eq_true rfl) rfl ?_
  refine jd_pV (As := []) (rest := [.int (0), .int (x)]) (ct_J2_size hlS (show nS κ ≤ 900 by omega)) (jd_rv hlS 15 rfl rfl) rfl q1533 q344 q1999 q83 q346 nJ2_size dX4_isSleeper_6 rfl rfl rfl (Nat.le_of_ble_eq_true rfl) ⟨(Nat.le_of_ble_eq_true rfl), (Nat.le_of_ble_eq_true rfl)⟩ ?_
  refine jd_iconst (v := 1) dX4_isSleeper_9 (by decide) ?_
  refine jd_isub dX4_isSleeper_10 ?_
  refine jd_pS (As := [.int (x), .int (0), .int ((nI (nS κ) - 1))]) (rest := []) (ct_X4_is (x) (0) ((nI (nS κ) - 1))) rfl q1518 q1519 q90 q1520 nX4_is dX4_isSleeper_11 rfl rfl (Nat.le_of_ble_eq_true rfl) ⟨(Nat.le_of_ble_eq_true rfl), (Nat.le_of_ble_eq_true rfl)⟩ ?_
  exact jd_zret dX4_isSleeper_14 rfl (jd_b01 _) ⟨congrArg (fun x => some (Value.int x)) (jd_bcong (inNn (by omega))), rfl⟩

set_option maxRecDepth 20000 in
set_option maxHeartbeats 2000000 in
theorem ct_X4_isPart {G : jd_G} {γ : ll_B} {κ : ll_K} {μ : ll_U} {h : jd_H} (hw : WM G γ κ μ h) (hI : ll_I κ) (x : Int32) : jd_Ct G mX4_isPart 1 (0) (0) [.ref (γ 0 0), .int (x)] h (jd_pu h (.int (jd_b (inN x (nP κ))))) jd_no := by
  obtain ⟨⟨hG8, hS12, hP24, hH40, hN99, hH24⟩, hIg, hIs, hIp, hIh, hIl, hIq⟩ := id hI
  obtain ⟨mcG, hlG⟩ := w_mgates hw
  obtain ⟨mcS, hlS⟩ := w_msleepers hw
  obtain ⟨mcP, hlP⟩ := w_mparts hw
  obtain ⟨mcH, hlH⟩ := w_mhidings hw
  refine jd_ct (ls := [some (.ref (γ 0 0)), some (.int (x))]) rfl rfl (by decide) (Nat.le_of_ble_eq_true rfl) rfl ?_
  refine jd_iload_n dX4_isPart_0 rfl ?_
  refine jd_iconst (v := 0) dX4_isPart_1 (by decide) ?_
  refine jd_aload_n dX4_isPart_2 rfl ?_
  refine jd_get in_X4 (w_mthis hw) 9 q1475 dX4_isPart_3 rfl (Nat.le_of_ble_eq_true rfl) rfl ?_
  refine jd_pV (As := []) (rest := [.int (0), .int (x)]) (ct_J2_size hlP (show nP κ ≤ 900 by omega)) (jd_rv hlP 15 rfl rfl) rfl q1533 q344 q1999 q83 q346 nJ2_size dX4_isPart_6 rfl rfl rfl (Nat.le_of_ble_eq_true rfl) ⟨(Nat.le_of_ble_eq_true rfl), (Nat.le_of_ble_eq_true rfl)⟩ ?_
  refine jd_iconst (v := 1) dX4_isPart_9 (by decide) ?_
  refine jd_isub dX4_isPart_10 ?_
  refine jd_pS (As := [.int (x), .int (0), .int ((nI (nP κ) - 1))]) (rest := []) (ct_X4_is (x) (0) ((nI (nP κ) - 1))) rfl q1518 q1519 q90 q1520 nX4_is dX4_isPart_11 rfl rfl (Nat.le_of_ble_eq_true rfl) ⟨(Nat.le_of_ble_eq_true rfl), (Nat.le_of_ble_eq_true rfl)⟩ ?_
  exact jd_zret dX4_isPart_14 rfl (jd_b01 _) ⟨congrArg (fun x => some (Value.int x)) (jd_bcong (inNn (by omega))), rfl⟩

set_option maxRecDepth 20000 in
set_option maxHeartbeats 2000000 in
theorem ct_X4_refuse {G : jd_G} {γ : ll_B} {κ : ll_K} {μ : ll_U} {h : jd_H} (hw : WM G γ κ μ h) (n : Int32) : jd_Ct G mX4_refuse 0 (0) (0) [.ref (γ 0 0), .int (n)] h (fun r h2 => r = some (.int 0) ∧ WM G γ κ (mu_s μ 0 0 n) h2 ∧ ∀ j : jd_Id, (j.1 < 20 ∨ 40 ≤ j.1) → h2 j = h j) jd_no := by
  have hnone := True.intro
  refine jd_ct (ls := [some (.ref (γ 0 0)), some (.int (n))]) rfl rfl (by decide) (Nat.le_of_ble_eq_true rfl) rfl ?_
  refine jd_aload_n dX4_refuse_0 rfl ?_
  refine jd_iload_n dX4_refuse_1 rfl ?_
  refine jd_put (fs' := [_, _, _, _, _, _, _, _, _, _, _, _, _]) in_X4 tyX4_ok nmX4 (w_mthis hw) 0 q1466 dX4_refuse_2 rfl (Nat.le_of_ble_eq_true rfl) rfl rfl rfl (Nat.le_of_ble_eq_true rfl) rfl ?_
  refine jd_updG (fun h1 hs1 ho1 => ?_)
  have hw1 := m_thrown hw (v := n) hs1 ho1
  refine jd_iconst (v := 0) dX4_refuse_5 (by decide) ?_
  exact jd_iret dX4_refuse_6 rfl ⟨rfl, hw1, (fun j hj => (ho1 j (ll_nel (by decide) hj)))⟩

set_option maxRecDepth 20000 in
set_option maxHeartbeats 2000000 in
theorem ct_X4_thrown {G : jd_G} {γ : ll_B} {κ : ll_K} {μ : ll_U} {h : jd_H} (hw : WM G γ κ μ h)  : jd_Ct G mX4_thrown 0 (0) (0) [.ref (γ 0 0)] h (jd_pu h (.int (μ.1 0 0))) jd_no := by
  have hnone := True.intro
  refine jd_ct (ls := [some (.ref (γ 0 0))]) rfl rfl (by decide) (Nat.le_of_ble_eq_true rfl) rfl ?_
  refine jd_aload_n dX4_thrown_0 rfl ?_
  refine jd_get in_X4 (w_mthis hw) 0 q1466 dX4_thrown_1 rfl (Nat.le_of_ble_eq_true rfl) rfl ?_
  exact jd_iret dX4_thrown_4 rfl ⟨rfl, rfl⟩

set_option maxRecDepth 20000 in
set_option maxHeartbeats 2000000 in
theorem ct_X4_land {G : jd_G} {γ : ll_B} {κ : ll_K} {μ : ll_U} {h : jd_H} (hw : WM G γ κ μ h) (hI : ll_I κ) (l : Int32) (r : Int32) (a : Int32) : jd_Ct G mX4_land 2 (0) (0) [.ref (γ 0 0), .int (l), .int (r), .int (a)] h (jd_mo G γ κ h (c_land l r a) (.int (lRate κ (tN l))) (k_land κ (tN l) r a)) jd_no := by
  obtain ⟨⟨hG8, hS12, hP24, hH40, hN99, hH24⟩, hIg, hIs, hIp, hIh, hIl, hIq⟩ := id hI
  obtain ⟨mcG, hlG⟩ := w_mgates hw
  obtain ⟨mcS, hlS⟩ := w_msleepers hw
  obtain ⟨mcP, hlP⟩ := w_mparts hw
  obtain ⟨mcH, hlH⟩ := w_mhidings hw
  refine jd_ct (ls := [some (.ref (γ 0 0)), some (.int (l)), some (.int (r)), some (.int (a)), none]) rfl rfl (by decide) (Nat.le_of_ble_eq_true rfl) rfl ?_
  refine jd_aload_n dX4_land_0 rfl ?_
  refine jd_iconst (v := 0) dX4_land_1 (by decide) ?_
  refine jd_put (fs' := [_, _, _, _, _, _, _, _, _, _, _, _, _]) in_X4 tyX4_ok nmX4 (w_mthis hw) 0 q1466 dX4_land_2 rfl (Nat.le_of_ble_eq_true rfl) rfl rfl rfl (Nat.le_of_ble_eq_true rfl) rfl ?_
  refine jd_updG (fun h1 hs1 ho1 => ?_)
  have hw1 := m_thrown hw (v := 0) hs1 ho1
  refine jd_aload_n dX4_land_5 rfl ?_
  refine jd_iload_n dX4_land_6 rfl ?_
  refine jd_pV (As := [.int (l)]) (rest := []) (ct_X4_isLand hw1 hI (l)) (jd_rv (w_mthis hw1) 9 rfl rfl) rfl q1514 q1516 qs49 q90 q1517 nX4_isLand dX4_land_7 rfl rfl rfl (Nat.le_of_ble_eq_true rfl) ⟨(Nat.le_of_ble_eq_true rfl), (Nat.le_of_ble_eq_true rfl)⟩ ?_
  refine jd_bif_ne (tgt := 19) dX4_land_10 (by decide) (fun z2 => ?_) (fun z3 => ?_)
  · have hcc4 := z2
    obtain ⟨k_l, hk_l, rfl⟩ := inN_ex (n := 6) (by decide) hcc4
    have hT_l := tN_nI (show k_l < 2 ^ 31 by omega)
    refine jd_iload_n dX4_land_19 rfl ?_
    refine jd_iconst (v := 0) dX4_land_20 (by decide) ?_
    refine jd_bipush (v := 50) dX4_land_21 (by decide) ?_
    refine jd_pS (As := [.int (r), .int (0), .int (50)]) (rest := []) (ct_X4_is (r) (0) (50)) rfl q1518 q1519 q90 q1520 nX4_is dX4_land_23 rfl rfl (Nat.le_of_ble_eq_true rfl) ⟨(Nat.le_of_ble_eq_true rfl), (Nat.le_of_ble_eq_true rfl)⟩ ?_
    refine jd_bif_eq (tgt := 39) dX4_land_26 (by decide) (fun z5 => ?_) (fun z6 => ?_)
    · have hcc7 := z5
      refine jd_aload_n dX4_land_39 rfl ?_
      refine jd_iconst (v := 2) dX4_land_40 (by decide) ?_
      refine jd_callV (As := [.int (2)]) (rest := []) (ct_X4_refuse hw1 (2)) (jd_rv (w_mthis hw1) 9 rfl rfl) rfl q1521 q1523 qs50 q90 q1524 nX4_refuse dX4_land_41 rfl rfl rfl (Nat.le_of_ble_eq_true rfl) ⟨(Nat.le_of_ble_eq_true rfl), (Nat.le_of_ble_eq_true rfl), by omega, by omega⟩ (fun rv7 hn7 hq7 => ?_) jd_nox
      obtain ⟨rfl, hw7_, hf7_⟩ := hq7
      exact jd_iret dX4_land_44 rfl (jd_mo.no (γ' := γ) (μ' := (mu_s (mu_s μ 0 0 0) 0 0 2)) (k := 2) (by unfold c_land; (try simp only [hT_l]); rw [if_pos hcc4, if_neg hcc7]) (by decide) rfl hw7_ rfl (fun j hj => ((hf7_ j hj).trans (ho1 j (ll_nel (by decide) hj)))))
    · have hcc9 := z6
      refine jd_iload_n dX4_land_29 rfl ?_
      refine jd_iconst (v := 0) dX4_land_30 (by decide) ?_
      refine jd_bipush (v := 99) dX4_land_31 (by decide) ?_
      refine jd_pS (As := [.int (a), .int (0), .int (99)]) (rest := []) (ct_X4_is (a) (0) (99)) rfl q1518 q1519 q90 q1520 nX4_is dX4_land_33 rfl rfl (Nat.le_of_ble_eq_true rfl) ⟨(Nat.le_of_ble_eq_true rfl), (Nat.le_of_ble_eq_true rfl)⟩ ?_
      refine jd_bif_ne (tgt := 45) dX4_land_36 (by decide) (fun z10 => ?_) (fun z11 => ?_)
      · have hcc12 := z10
        refine jd_aload_n dX4_land_45 rfl ?_
        refine jd_get in_X4 (w_mthis hw1) 6 q1472 dX4_land_46 rfl (Nat.le_of_ble_eq_true rfl) rfl ?_
        refine jd_iload_n dX4_land_49 rfl ?_
        refine jd_aald (y := γ 1 k_l) (w_mlands hw1) dX4_land_50 5 rfl (vp_in_nI (by omega) (by omega)) (by rw [nI_clamp (by omega)]) ?_
        refine jd_getN in_X5 ((w_mland hw1) k_l (show k_l < 6 by omega)) 0 q1445 dX4_land_51 rfl (Nat.le_of_ble_eq_true rfl) rfl ?_
        refine jd_istore (ls' := [_, _, _, _, _]) dX4_land_54 (Nat.le_of_ble_eq_true rfl) rfl rfl ?_
        refine jd_aload_n dX4_land_56 rfl ?_
        refine jd_get in_X4 (w_mthis hw1) 6 q1472 dX4_land_57 rfl (Nat.le_of_ble_eq_true rfl) rfl ?_
        refine jd_iload_n dX4_land_60 rfl ?_
        refine jd_aald (y := γ 1 k_l) (w_mlands hw1) dX4_land_61 5 rfl (vp_in_nI (by omega) (by omega)) (by rw [nI_clamp (by omega)]) ?_
        refine jd_iload_n dX4_land_62 rfl ?_
        refine jd_putN (fs' := [_, _, _, _, _, _]) in_X5 tyX5_ok nmX5 ((w_mland hw1) k_l (show k_l < 6 by omega)) 0 q1445 dX4_land_63 rfl (Nat.le_of_ble_eq_true rfl) rfl rfl rfl (Nat.le_of_ble_eq_true rfl) rfl ?_
        refine jd_updG (fun h13 hs13 ho13 => ?_)
        have hw13 := m_lRate hw1 (k := k_l) (show k_l < 6 by omega) (v := r) hs13 ho13
        refine jd_aload_n dX4_land_66 rfl ?_
        refine jd_get in_X4 (w_mthis hw13) 6 q1472 dX4_land_67 rfl (Nat.le_of_ble_eq_true rfl) rfl ?_
        refine jd_iload_n dX4_land_70 rfl ?_
        refine jd_aald (y := γ 1 k_l) (w_mlands hw13) dX4_land_71 5 rfl (vp_in_nI (by omega) (by omega)) (by rw [nI_clamp (by omega)]) ?_
        refine jd_iload_n dX4_land_72 rfl ?_
        refine jd_putN (fs' := [_, _, _, _, _, _]) in_X5 tyX5_ok nmX5 ((w_mland hw13) k_l (show k_l < 6 by omega)) 1 q1447 dX4_land_73 rfl (Nat.le_of_ble_eq_true rfl) rfl rfl rfl (Nat.le_of_ble_eq_true rfl) rfl ?_
        refine jd_updG (fun h14 hs14 ho14 => ?_)
        have hw14 := m_lAll hw13 (k := k_l) (show k_l < 6 by omega) (v := a) hs14 ho14
        refine jd_iload dX4_land_76 rfl ?_
        exact jd_iret dX4_land_78 rfl (jd_mo.ok (γ' := γ) (μ' := (mu_s μ 0 0 0)) (by unfold c_land; (try simp only [hT_l]); rw [if_pos hcc4, if_pos hcc9, if_pos hcc12]) (by first | (simp only [hT_l]; done) | (simp only [hT_l]; rfl) | rfl) rfl (by first | (simp only [hT_l]; exact hw14) | exact hw14) rfl (fun j hj => ((ho14 j (ll_nel (by decide) hj)).trans ((ho13 j (ll_nel (by decide) hj)).trans (ho1 j (ll_nel (by decide) hj))))))
      · have hcc15 := z11
        refine jd_aload_n dX4_land_39 rfl ?_
        refine jd_iconst (v := 2) dX4_land_40 (by decide) ?_
        refine jd_callV (As := [.int (2)]) (rest := []) (ct_X4_refuse hw1 (2)) (jd_rv (w_mthis hw1) 9 rfl rfl) rfl q1521 q1523 qs50 q90 q1524 nX4_refuse dX4_land_41 rfl rfl rfl (Nat.le_of_ble_eq_true rfl) ⟨(Nat.le_of_ble_eq_true rfl), (Nat.le_of_ble_eq_true rfl), by omega, by omega⟩ (fun rv15 hn15 hq15 => ?_) jd_nox
        obtain ⟨rfl, hw15_, hf15_⟩ := hq15
        exact jd_iret dX4_land_44 rfl (jd_mo.no (γ' := γ) (μ' := (mu_s (mu_s μ 0 0 0) 0 0 2)) (k := 2) (by unfold c_land; (try simp only [hT_l]); rw [if_pos hcc4, if_pos hcc9, if_neg hcc15]) (by decide) rfl hw15_ rfl (fun j hj => ((hf15_ j hj).trans (ho1 j (ll_nel (by decide) hj)))))
  · have hcc17 := z3
    refine jd_aload_n dX4_land_13 rfl ?_
    refine jd_iconst (v := 1) dX4_land_14 (by decide) ?_
    refine jd_callV (As := [.int (1)]) (rest := []) (ct_X4_refuse hw1 (1)) (jd_rv (w_mthis hw1) 9 rfl rfl) rfl q1521 q1523 qs50 q90 q1524 nX4_refuse dX4_land_15 rfl rfl rfl (Nat.le_of_ble_eq_true rfl) ⟨(Nat.le_of_ble_eq_true rfl), (Nat.le_of_ble_eq_true rfl), by omega, by omega⟩ (fun rv17 hn17 hq17 => ?_) jd_nox
    obtain ⟨rfl, hw17_, hf17_⟩ := hq17
    exact jd_iret dX4_land_18 rfl (jd_mo.no (γ' := γ) (μ' := (mu_s (mu_s μ 0 0 0) 0 0 1)) (k := 1) (by unfold c_land; rw [if_neg hcc17]) (by decide) rfl hw17_ rfl (fun j hj => ((hf17_ j hj).trans (ho1 j (ll_nel (by decide) hj)))))

set_option maxRecDepth 20000 in
set_option maxHeartbeats 2000000 in
theorem ct_X4_odds {G : jd_G} {γ : ll_B} {κ : ll_K} {μ : ll_U} {h : jd_H} (hw : WM G γ κ μ h) (hI : ll_I κ) (g : Int32) (o : Int32) : jd_Ct G mX4_odds 3 (0) (0) [.ref (γ 0 0), .int (g), .int (o)] h (jd_mo G γ κ h (c_odds κ g o) (.int (gOdds κ (tN g))) (ll_sz κ 9 (tN g) o)) jd_no := by
  obtain ⟨⟨hG8, hS12, hP24, hH40, hN99, hH24⟩, hIg, hIs, hIp, hIh, hIl, hIq⟩ := id hI
  obtain ⟨mcG, hlG⟩ := w_mgates hw
  obtain ⟨mcS, hlS⟩ := w_msleepers hw
  obtain ⟨mcP, hlP⟩ := w_mparts hw
  obtain ⟨mcH, hlH⟩ := w_mhidings hw
  refine jd_ct (ls := [some (.ref (γ 0 0)), some (.int (g)), some (.int (o)), none]) rfl rfl (by decide) (Nat.le_of_ble_eq_true rfl) rfl ?_
  refine jd_aload_n dX4_odds_0 rfl ?_
  refine jd_iconst (v := 0) dX4_odds_1 (by decide) ?_
  refine jd_put (fs' := [_, _, _, _, _, _, _, _, _, _, _, _, _]) in_X4 tyX4_ok nmX4 (w_mthis hw) 0 q1466 dX4_odds_2 rfl (Nat.le_of_ble_eq_true rfl) rfl rfl rfl (Nat.le_of_ble_eq_true rfl) rfl ?_
  refine jd_updG (fun h1 hs1 ho1 => ?_)
  have hw1 := m_thrown hw (v := 0) hs1 ho1
  refine jd_aload_n dX4_odds_5 rfl ?_
  refine jd_iload_n dX4_odds_6 rfl ?_
  refine jd_pV (As := [.int (g)]) (rest := []) (ct_X4_isGate hw1 hI (g)) (jd_rv (w_mthis hw1) 9 rfl rfl) rfl q1580 q1582 qs51 q90 q1583 nX4_isGate dX4_odds_7 rfl rfl rfl (Nat.le_of_ble_eq_true rfl) ⟨(Nat.le_of_ble_eq_true rfl), (Nat.le_of_ble_eq_true rfl)⟩ ?_
  refine jd_bif_ne (tgt := 19) dX4_odds_10 (by decide) (fun z2 => ?_) (fun z3 => ?_)
  · have hcc4 := z2
    obtain ⟨k_g, hk_g, rfl⟩ := inN_ex (n := (nG κ)) (by omega) hcc4
    have hT_g := tN_nI (show k_g < 2 ^ 31 by omega)
    refine jd_iload_n dX4_odds_19 rfl ?_
    refine jd_iconst (v := 0) dX4_odds_20 (by decide) ?_
    refine jd_bipush (v := 10) dX4_odds_21 (by decide) ?_
    refine jd_pS (As := [.int (o), .int (0), .int (10)]) (rest := []) (ct_X4_is (o) (0) (10)) rfl q1518 q1519 q90 q1520 nX4_is dX4_odds_23 rfl rfl (Nat.le_of_ble_eq_true rfl) ⟨(Nat.le_of_ble_eq_true rfl), (Nat.le_of_ble_eq_true rfl)⟩ ?_
    refine jd_bif_ne (tgt := 35) dX4_odds_26 (by decide) (fun z5 => ?_) (fun z6 => ?_)
    · have hcc7 := z5
      refine jd_aload_n dX4_odds_35 rfl ?_
      refine jd_get in_X4 (w_mthis hw1) 7 q1473 dX4_odds_36 rfl (Nat.le_of_ble_eq_true rfl) rfl ?_
      refine jd_iload_n dX4_odds_39 rfl ?_
      obtain ⟨mcl8, hl8_⟩ := w_mgates hw1
      refine jd_pV (As := [.int (nI k_g)]) (rest := []) (ct_J2_get hl8_ (show nG κ ≤ 900 by omega) (k := k_g) (show k_g < nG κ by omega)) (jd_rv hl8_ 15 rfl rfl) rfl q1584 q325 q2001 q83 q327 nJ2_get dX4_odds_40 rfl rfl rfl (Nat.le_of_ble_eq_true rfl) ⟨(Nat.le_of_ble_eq_true rfl), (Nat.le_of_ble_eq_true rfl)⟩ ?_
      refine jd_castS (jd_rv ((w_mgate hw1) k_g (show k_g < nG κ by omega)) 11 rfl rfl) (ci := 11) rfl q1534 dX4_odds_43 ?_
      refine jd_getN in_X8 ((w_mgate hw1) k_g (show k_g < nG κ by omega)) 4 q1551 dX4_odds_46 rfl (Nat.le_of_ble_eq_true rfl) rfl ?_
      refine jd_istore_n (ls' := [_, _, _, _]) dX4_odds_49 (Nat.le_of_ble_eq_true rfl) rfl rfl ?_
      refine jd_aload_n dX4_odds_50 rfl ?_
      refine jd_get in_X4 (w_mthis hw1) 7 q1473 dX4_odds_51 rfl (Nat.le_of_ble_eq_true rfl) rfl ?_
      refine jd_iload_n dX4_odds_54 rfl ?_
      refine jd_pV (As := [.int (nI k_g)]) (rest := []) (ct_J2_get hl8_ (show nG κ ≤ 900 by omega) (k := k_g) (show k_g < nG κ by omega)) (jd_rv hl8_ 15 rfl rfl) rfl q1584 q325 q2001 q83 q327 nJ2_get dX4_odds_55 rfl rfl rfl (Nat.le_of_ble_eq_true rfl) ⟨(Nat.le_of_ble_eq_true rfl), (Nat.le_of_ble_eq_true rfl)⟩ ?_
      refine jd_castS (jd_rv ((w_mgate hw1) k_g (show k_g < nG κ by omega)) 11 rfl rfl) (ci := 11) rfl q1534 dX4_odds_58 ?_
      refine jd_iload_n dX4_odds_61 rfl ?_
      refine jd_putN (fs' := [_, _, _, _, _, _, _, _]) in_X8 tyX8_ok nmX8 ((w_mgate hw1) k_g (show k_g < nG κ by omega)) 4 q1551 dX4_odds_62 rfl (Nat.le_of_ble_eq_true rfl) rfl rfl rfl (Nat.le_of_ble_eq_true rfl) rfl ?_
      refine jd_updG (fun h9 hs9 ho9 => ?_)
      have hw9 := m_gOdds hw1 (k := k_g) (show k_g < nG κ by omega) (v := o) hs9 ho9
      refine jd_iload_n dX4_odds_65 rfl ?_
      exact jd_iret dX4_odds_66 rfl (jd_mo.ok (γ' := γ) (μ' := (mu_s μ 0 0 0)) (by unfold c_odds; (try simp only [hT_g]); rw [if_pos hcc4, if_pos hcc7]) (by first | (simp only [hT_g]; done) | (simp only [hT_g]; rfl) | rfl) rfl (by first | (simp only [hT_g]; exact hw9) | exact hw9) rfl (fun j hj => ((ho9 j (ll_nel (by decide) hj)).trans (ho1 j (ll_nel (by decide) hj)))))
    · have hcc10 := z6
      refine jd_aload_n dX4_odds_29 rfl ?_
      refine jd_iconst (v := 2) dX4_odds_30 (by decide) ?_
      refine jd_callV (As := [.int (2)]) (rest := []) (ct_X4_refuse hw1 (2)) (jd_rv (w_mthis hw1) 9 rfl rfl) rfl q1521 q1523 qs50 q90 q1524 nX4_refuse dX4_odds_31 rfl rfl rfl (Nat.le_of_ble_eq_true rfl) ⟨(Nat.le_of_ble_eq_true rfl), (Nat.le_of_ble_eq_true rfl), by omega, by omega⟩ (fun rv10 hn10 hq10 => ?_) jd_nox
      obtain ⟨rfl, hw10_, hf10_⟩ := hq10
      exact jd_iret dX4_odds_34 rfl (jd_mo.no (γ' := γ) (μ' := (mu_s (mu_s μ 0 0 0) 0 0 2)) (k := 2) (by unfold c_odds; (try simp only [hT_g]); rw [if_pos hcc4, if_neg hcc10]) (by decide) rfl hw10_ rfl (fun j hj => ((hf10_ j hj).trans (ho1 j (ll_nel (by decide) hj)))))
  · have hcc12 := z3
    refine jd_aload_n dX4_odds_13 rfl ?_
    refine jd_iconst (v := 1) dX4_odds_14 (by decide) ?_
    refine jd_callV (As := [.int (1)]) (rest := []) (ct_X4_refuse hw1 (1)) (jd_rv (w_mthis hw1) 9 rfl rfl) rfl q1521 q1523 qs50 q90 q1524 nX4_refuse dX4_odds_15 rfl rfl rfl (Nat.le_of_ble_eq_true rfl) ⟨(Nat.le_of_ble_eq_true rfl), (Nat.le_of_ble_eq_true rfl), by omega, by omega⟩ (fun rv12 hn12 hq12 => ?_) jd_nox
    obtain ⟨rfl, hw12_, hf12_⟩ := hq12
    exact jd_iret dX4_odds_18 rfl (jd_mo.no (γ' := γ) (μ' := (mu_s (mu_s μ 0 0 0) 0 0 1)) (k := 1) (by unfold c_odds; rw [if_neg hcc12]) (by decide) rfl hw12_ rfl (fun j hj => ((hf12_ j hj).trans (ho1 j (ll_nel (by decide) hj)))))

set_option maxRecDepth 20000 in
set_option maxHeartbeats 2000000 in
theorem ct_X4_relieve {G : jd_G} {γ : ll_B} {κ : ll_K} {μ : ll_U} {h : jd_H} (hw : WM G γ κ μ h) (hI : ll_I κ) (g : Int32) : jd_Ct G mX4_relieve 3 (0) (0) [.ref (γ 0 0), .int (g)] h (jd_mo G γ κ h (c_gate1 κ g) (.int (gWatch κ (tN g))) (ll_sz κ 10 (tN g) 0)) jd_no := by
  obtain ⟨⟨hG8, hS12, hP24, hH40, hN99, hH24⟩, hIg, hIs, hIp, hIh, hIl, hIq⟩ := id hI
  obtain ⟨mcG, hlG⟩ := w_mgates hw
  obtain ⟨mcS, hlS⟩ := w_msleepers hw
  obtain ⟨mcP, hlP⟩ := w_mparts hw
  obtain ⟨mcH, hlH⟩ := w_mhidings hw
  refine jd_ct (ls := [some (.ref (γ 0 0)), some (.int (g)), none]) rfl rfl (by decide) (Nat.le_of_ble_eq_true rfl) rfl ?_
  refine jd_aload_n dX4_relieve_0 rfl ?_
  refine jd_iconst (v := 0) dX4_relieve_1 (by decide) ?_
  refine jd_put (fs' := [_, _, _, _, _, _, _, _, _, _, _, _, _]) in_X4 tyX4_ok nmX4 (w_mthis hw) 0 q1466 dX4_relieve_2 rfl (Nat.le_of_ble_eq_true rfl) rfl rfl rfl (Nat.le_of_ble_eq_true rfl) rfl ?_
  refine jd_updG (fun h1 hs1 ho1 => ?_)
  have hw1 := m_thrown hw (v := 0) hs1 ho1
  refine jd_aload_n dX4_relieve_5 rfl ?_
  refine jd_iload_n dX4_relieve_6 rfl ?_
  refine jd_pV (As := [.int (g)]) (rest := []) (ct_X4_isGate hw1 hI (g)) (jd_rv (w_mthis hw1) 9 rfl rfl) rfl q1580 q1582 qs51 q90 q1583 nX4_isGate dX4_relieve_7 rfl rfl rfl (Nat.le_of_ble_eq_true rfl) ⟨(Nat.le_of_ble_eq_true rfl), (Nat.le_of_ble_eq_true rfl)⟩ ?_
  refine jd_bif_ne (tgt := 19) dX4_relieve_10 (by decide) (fun z2 => ?_) (fun z3 => ?_)
  · have hcc4 := z2
    obtain ⟨k_g, hk_g, rfl⟩ := inN_ex (n := (nG κ)) (by omega) hcc4
    have hT_g := tN_nI (show k_g < 2 ^ 31 by omega)
    refine jd_aload_n dX4_relieve_19 rfl ?_
    refine jd_get in_X4 (w_mthis hw1) 7 q1473 dX4_relieve_20 rfl (Nat.le_of_ble_eq_true rfl) rfl ?_
    refine jd_iload_n dX4_relieve_23 rfl ?_
    obtain ⟨mcl5, hl5_⟩ := w_mgates hw1
    refine jd_pV (As := [.int (nI k_g)]) (rest := []) (ct_J2_get hl5_ (show nG κ ≤ 900 by omega) (k := k_g) (show k_g < nG κ by omega)) (jd_rv hl5_ 15 rfl rfl) rfl q1584 q325 q2001 q83 q327 nJ2_get dX4_relieve_24 rfl rfl rfl (Nat.le_of_ble_eq_true rfl) ⟨(Nat.le_of_ble_eq_true rfl), (Nat.le_of_ble_eq_true rfl)⟩ ?_
    refine jd_castS (jd_rv ((w_mgate hw1) k_g (show k_g < nG κ by omega)) 11 rfl rfl) (ci := 11) rfl q1534 dX4_relieve_27 ?_
    refine jd_getN in_X8 ((w_mgate hw1) k_g (show k_g < nG κ by omega)) 5 q1553 dX4_relieve_30 rfl (Nat.le_of_ble_eq_true rfl) rfl ?_
    refine jd_istore_n (ls' := [_, _, _]) dX4_relieve_33 (Nat.le_of_ble_eq_true rfl) rfl rfl ?_
    refine jd_aload_n dX4_relieve_34 rfl ?_
    refine jd_get in_X4 (w_mthis hw1) 7 q1473 dX4_relieve_35 rfl (Nat.le_of_ble_eq_true rfl) rfl ?_
    refine jd_iload_n dX4_relieve_38 rfl ?_
    refine jd_pV (As := [.int (nI k_g)]) (rest := []) (ct_J2_get hl5_ (show nG κ ≤ 900 by omega) (k := k_g) (show k_g < nG κ by omega)) (jd_rv hl5_ 15 rfl rfl) rfl q1584 q325 q2001 q83 q327 nJ2_get dX4_relieve_39 rfl rfl rfl (Nat.le_of_ble_eq_true rfl) ⟨(Nat.le_of_ble_eq_true rfl), (Nat.le_of_ble_eq_true rfl)⟩ ?_
    refine jd_castS (jd_rv ((w_mgate hw1) k_g (show k_g < nG κ by omega)) 11 rfl rfl) (ci := 11) rfl q1534 dX4_relieve_42 ?_
    refine jd_iconst (v := 0) dX4_relieve_45 (by decide) ?_
    refine jd_putN (fs' := [_, _, _, _, _, _, _, _]) in_X8 tyX8_ok nmX8 ((w_mgate hw1) k_g (show k_g < nG κ by omega)) 5 q1553 dX4_relieve_46 rfl (Nat.le_of_ble_eq_true rfl) rfl rfl rfl (Nat.le_of_ble_eq_true rfl) rfl ?_
    refine jd_updG (fun h6 hs6 ho6 => ?_)
    have hw6 := m_gWatch hw1 (k := k_g) (show k_g < nG κ by omega) (v := 0) hs6 ho6
    refine jd_iload_n dX4_relieve_49 rfl ?_
    exact jd_iret dX4_relieve_50 rfl (jd_mo.ok (γ' := γ) (μ' := (mu_s μ 0 0 0)) (by unfold c_gate1; (try simp only [hT_g]); rw [if_pos hcc4]) (by first | (simp only [hT_g]; done) | (simp only [hT_g]; rfl) | rfl) rfl (by first | (simp only [hT_g]; exact hw6) | exact hw6) rfl (fun j hj => ((ho6 j (ll_nel (by decide) hj)).trans (ho1 j (ll_nel (by decide) hj)))))
  · have hcc7 := z3
    refine jd_aload_n dX4_relieve_13 rfl ?_
    refine jd_iconst (v := 1) dX4_relieve_14 (by decide) ?_
    refine jd_callV (As := [.int (1)]) (rest := []) (ct_X4_refuse hw1 (1)) (jd_rv (w_mthis hw1) 9 rfl rfl) rfl q1521 q1523 qs50 q90 q1524 nX4_refuse dX4_relieve_15 rfl rfl rfl (Nat.le_of_ble_eq_true rfl) ⟨(Nat.le_of_ble_eq_true rfl), (Nat.le_of_ble_eq_true rfl), by omega, by omega⟩ (fun rv7 hn7 hq7 => ?_) jd_nox
    obtain ⟨rfl, hw7_, hf7_⟩ := hq7
    exact jd_iret dX4_relieve_18 rfl (jd_mo.no (γ' := γ) (μ' := (mu_s (mu_s μ 0 0 0) 0 0 1)) (k := 1) (by unfold c_gate1; rw [if_neg hcc7]) (by decide) rfl hw7_ rfl (fun j hj => ((hf7_ j hj).trans (ho1 j (ll_nel (by decide) hj)))))

set_option maxRecDepth 20000 in
set_option maxHeartbeats 2000000 in
theorem ct_X4_ofLand {G : jd_G} {γ : ll_B} {κ : ll_K} {μ : ll_U} {h : jd_H} (hw : WM G γ κ μ h) (hI : ll_I κ) (l : Int32) (w : Int32) : jd_Ct G mX4_ofLand 6 (0) (0) [.ref (γ 0 0), .int (l), .int (w)] h (jd_mo G γ κ h (c_ofLand l w) (.int (landVal κ (tN l) (tN w))) (κ)) jd_no := by
  obtain ⟨⟨hG8, hS12, hP24, hH40, hN99, hH24⟩, hIg, hIs, hIp, hIh, hIl, hIq⟩ := id hI
  obtain ⟨mcG, hlG⟩ := w_mgates hw
  obtain ⟨mcS, hlS⟩ := w_msleepers hw
  obtain ⟨mcP, hlP⟩ := w_mparts hw
  obtain ⟨mcH, hlH⟩ := w_mhidings hw
  refine jd_ct (ls := [some (.ref (γ 0 0)), some (.int (l)), some (.int (w))]) rfl rfl (by decide) (Nat.le_of_ble_eq_true rfl) rfl ?_
  refine jd_aload_n dX4_ofLand_0 rfl ?_
  refine jd_iconst (v := 0) dX4_ofLand_1 (by decide) ?_
  refine jd_put (fs' := [_, _, _, _, _, _, _, _, _, _, _, _, _]) in_X4 tyX4_ok nmX4 (w_mthis hw) 0 q1466 dX4_ofLand_2 rfl (Nat.le_of_ble_eq_true rfl) rfl rfl rfl (Nat.le_of_ble_eq_true rfl) rfl ?_
  refine jd_updG (fun h1 hs1 ho1 => ?_)
  have hw1 := m_thrown hw (v := 0) hs1 ho1
  refine jd_aload_n dX4_ofLand_5 rfl ?_
  refine jd_iload_n dX4_ofLand_6 rfl ?_
  refine jd_pV (As := [.int (l)]) (rest := []) (ct_X4_isLand hw1 hI (l)) (jd_rv (w_mthis hw1) 9 rfl rfl) rfl q1514 q1516 qs49 q90 q1517 nX4_isLand dX4_ofLand_7 rfl rfl rfl (Nat.le_of_ble_eq_true rfl) ⟨(Nat.le_of_ble_eq_true rfl), (Nat.le_of_ble_eq_true rfl)⟩ ?_
  refine jd_bif_ne (tgt := 19) dX4_ofLand_10 (by decide) (fun z2 => ?_) (fun z3 => ?_)
  · have hcc4 := z2
    obtain ⟨k_l, hk_l, rfl⟩ := inN_ex (n := 6) (by decide) hcc4
    have hT_l := tN_nI (show k_l < 2 ^ 31 by omega)
    refine jd_iload_n dX4_ofLand_19 rfl ?_
    refine jd_iconst (v := 0) dX4_ofLand_20 (by decide) ?_
    refine jd_bipush (v := 8) dX4_ofLand_21 (by decide) ?_
    refine jd_pS (As := [.int (w), .int (0), .int (8)]) (rest := []) (ct_X4_is (w) (0) (8)) rfl q1518 q1519 q90 q1520 nX4_is dX4_ofLand_23 rfl rfl (Nat.le_of_ble_eq_true rfl) ⟨(Nat.le_of_ble_eq_true rfl), (Nat.le_of_ble_eq_true rfl)⟩ ?_
    refine jd_bif_eq (tgt := 38) dX4_ofLand_26 (by decide) (fun z5 => ?_) (fun z6 => ?_)
    · have hcc7 := z5
      refine jd_aload_n dX4_ofLand_38 rfl ?_
      refine jd_iconst (v := 2) dX4_ofLand_39 (by decide) ?_
      refine jd_callV (As := [.int (2)]) (rest := []) (ct_X4_refuse hw1 (2)) (jd_rv (w_mthis hw1) 9 rfl rfl) rfl q1521 q1523 qs50 q90 q1524 nX4_refuse dX4_ofLand_40 rfl rfl rfl (Nat.le_of_ble_eq_true rfl) ⟨(Nat.le_of_ble_eq_true rfl), (Nat.le_of_ble_eq_true rfl), by omega, by omega⟩ (fun rv7 hn7 hq7 => ?_) jd_nox
      obtain ⟨rfl, hw7_, hf7_⟩ := hq7
      exact jd_iret dX4_ofLand_43 rfl (jd_mo.no (γ' := γ) (μ' := (mu_s (mu_s μ 0 0 0) 0 0 2)) (k := 2) (by unfold c_ofLand; (try simp only [hT_l]); rw [if_pos hcc4, if_neg hcc7]) (by decide) rfl hw7_ rfl (fun j hj => ((hf7_ j hj).trans (ho1 j (ll_nel (by decide) hj)))))
    · have hcc9 := z6
      obtain ⟨k_w, hk_w, rfl⟩ := inR_ex (lo := 0) (hi := 8) hcc9 (by omega) (by omega)
      have hT_w := tN_nI (show k_w < 2 ^ 31 by omega)
      refine jd_aload_n dX4_ofLand_29 rfl ?_
      refine jd_iload_n dX4_ofLand_30 rfl ?_
      refine jd_iload_n dX4_ofLand_31 rfl ?_
      refine jd_pV (As := [.int (nI k_l), .int (nI k_w)]) (rest := []) (ct_X4_ofLandNow hw1 hI (k_l) (by omega) (k_w) (by omega)) (jd_rv (w_mthis hw1) 9 rfl rfl) rfl q1864 q1866 qs64 q90 q1867 nX4_ofLandNow dX4_ofLand_32 rfl rfl rfl (Nat.le_of_ble_eq_true rfl) ⟨(Nat.le_of_ble_eq_true rfl), (Nat.le_of_ble_eq_true rfl)⟩ ?_
      refine jd_goto (tgt := 43) dX4_ofLand_35 (by decide) ?_
      exact jd_iret dX4_ofLand_43 rfl (jd_mo.ok (γ' := γ) (μ' := (mu_s μ 0 0 0)) (by unfold c_ofLand; (try simp only [hT_l, hT_w]); rw [if_pos hcc4, if_pos hcc9]) (by first | (simp only [hT_l, hT_w]; done) | (simp only [hT_l, hT_w]; rfl) | rfl) rfl hw1 rfl (fun j hj => (ho1 j (ll_nel (by decide) hj))))
  · have hcc10 := z3
    refine jd_aload_n dX4_ofLand_13 rfl ?_
    refine jd_iconst (v := 1) dX4_ofLand_14 (by decide) ?_
    refine jd_callV (As := [.int (1)]) (rest := []) (ct_X4_refuse hw1 (1)) (jd_rv (w_mthis hw1) 9 rfl rfl) rfl q1521 q1523 qs50 q90 q1524 nX4_refuse dX4_ofLand_15 rfl rfl rfl (Nat.le_of_ble_eq_true rfl) ⟨(Nat.le_of_ble_eq_true rfl), (Nat.le_of_ble_eq_true rfl), by omega, by omega⟩ (fun rv10 hn10 hq10 => ?_) jd_nox
    obtain ⟨rfl, hw10_, hf10_⟩ := hq10
    exact jd_iret dX4_ofLand_18 rfl (jd_mo.no (γ' := γ) (μ' := (mu_s (mu_s μ 0 0 0) 0 0 1)) (k := 1) (by unfold c_ofLand; rw [if_neg hcc10]) (by decide) rfl hw10_ rfl (fun j hj => ((hf10_ j hj).trans (ho1 j (ll_nel (by decide) hj)))))

set_option maxRecDepth 20000 in
set_option maxHeartbeats 2000000 in
theorem ct_X4_ofGate {G : jd_G} {γ : ll_B} {κ : ll_K} {μ : ll_U} {h : jd_H} (hw : WM G γ κ μ h) (hI : ll_I κ) (g : Int32) (w : Int32) : jd_Ct G mX4_ofGate 6 (0) (0) [.ref (γ 0 0), .int (g), .int (w)] h (jd_mo G γ κ h (c_ofGate κ g w) (.int (gateVal κ (tN g) (tN w))) (κ)) jd_no := by
  obtain ⟨⟨hG8, hS12, hP24, hH40, hN99, hH24⟩, hIg, hIs, hIp, hIh, hIl, hIq⟩ := id hI
  obtain ⟨mcG, hlG⟩ := w_mgates hw
  obtain ⟨mcS, hlS⟩ := w_msleepers hw
  obtain ⟨mcP, hlP⟩ := w_mparts hw
  obtain ⟨mcH, hlH⟩ := w_mhidings hw
  refine jd_ct (ls := [some (.ref (γ 0 0)), some (.int (g)), some (.int (w))]) rfl rfl (by decide) (Nat.le_of_ble_eq_true rfl) rfl ?_
  refine jd_aload_n dX4_ofGate_0 rfl ?_
  refine jd_iconst (v := 0) dX4_ofGate_1 (by decide) ?_
  refine jd_put (fs' := [_, _, _, _, _, _, _, _, _, _, _, _, _]) in_X4 tyX4_ok nmX4 (w_mthis hw) 0 q1466 dX4_ofGate_2 rfl (Nat.le_of_ble_eq_true rfl) rfl rfl rfl (Nat.le_of_ble_eq_true rfl) rfl ?_
  refine jd_updG (fun h1 hs1 ho1 => ?_)
  have hw1 := m_thrown hw (v := 0) hs1 ho1
  refine jd_aload_n dX4_ofGate_5 rfl ?_
  refine jd_iload_n dX4_ofGate_6 rfl ?_
  refine jd_pV (As := [.int (g)]) (rest := []) (ct_X4_isGate hw1 hI (g)) (jd_rv (w_mthis hw1) 9 rfl rfl) rfl q1580 q1582 qs51 q90 q1583 nX4_isGate dX4_ofGate_7 rfl rfl rfl (Nat.le_of_ble_eq_true rfl) ⟨(Nat.le_of_ble_eq_true rfl), (Nat.le_of_ble_eq_true rfl)⟩ ?_
  refine jd_bif_ne (tgt := 19) dX4_ofGate_10 (by decide) (fun z2 => ?_) (fun z3 => ?_)
  · have hcc4 := z2
    obtain ⟨k_g, hk_g, rfl⟩ := inN_ex (n := (nG κ)) (by omega) hcc4
    have hT_g := tN_nI (show k_g < 2 ^ 31 by omega)
    refine jd_iload_n dX4_ofGate_19 rfl ?_
    refine jd_iconst (v := 0) dX4_ofGate_20 (by decide) ?_
    refine jd_bipush (v := 9) dX4_ofGate_21 (by decide) ?_
    refine jd_pS (As := [.int (w), .int (0), .int (9)]) (rest := []) (ct_X4_is (w) (0) (9)) rfl q1518 q1519 q90 q1520 nX4_is dX4_ofGate_23 rfl rfl (Nat.le_of_ble_eq_true rfl) ⟨(Nat.le_of_ble_eq_true rfl), (Nat.le_of_ble_eq_true rfl)⟩ ?_
    refine jd_bif_eq (tgt := 38) dX4_ofGate_26 (by decide) (fun z5 => ?_) (fun z6 => ?_)
    · have hcc7 := z5
      refine jd_aload_n dX4_ofGate_38 rfl ?_
      refine jd_iconst (v := 2) dX4_ofGate_39 (by decide) ?_
      refine jd_callV (As := [.int (2)]) (rest := []) (ct_X4_refuse hw1 (2)) (jd_rv (w_mthis hw1) 9 rfl rfl) rfl q1521 q1523 qs50 q90 q1524 nX4_refuse dX4_ofGate_40 rfl rfl rfl (Nat.le_of_ble_eq_true rfl) ⟨(Nat.le_of_ble_eq_true rfl), (Nat.le_of_ble_eq_true rfl), by omega, by omega⟩ (fun rv7 hn7 hq7 => ?_) jd_nox
      obtain ⟨rfl, hw7_, hf7_⟩ := hq7
      exact jd_iret dX4_ofGate_43 rfl (jd_mo.no (γ' := γ) (μ' := (mu_s (mu_s μ 0 0 0) 0 0 2)) (k := 2) (by unfold c_ofGate; (try simp only [hT_g]); rw [if_pos hcc4, if_neg hcc7]) (by decide) rfl hw7_ rfl (fun j hj => ((hf7_ j hj).trans (ho1 j (ll_nel (by decide) hj)))))
    · have hcc9 := z6
      obtain ⟨k_w, hk_w, rfl⟩ := inR_ex (lo := 0) (hi := 9) hcc9 (by omega) (by omega)
      have hT_w := tN_nI (show k_w < 2 ^ 31 by omega)
      refine jd_aload_n dX4_ofGate_29 rfl ?_
      refine jd_iload_n dX4_ofGate_30 rfl ?_
      refine jd_iload_n dX4_ofGate_31 rfl ?_
      refine jd_pV (As := [.int (nI k_g), .int (nI k_w)]) (rest := []) (ct_X4_ofGateNow hw1 hI (k_g) (by omega) (k_w) (by omega)) (jd_rv (w_mthis hw1) 9 rfl rfl) rfl q1880 q1882 qs67 q90 q1883 nX4_ofGateNow dX4_ofGate_32 rfl rfl rfl (Nat.le_of_ble_eq_true rfl) ⟨(Nat.le_of_ble_eq_true rfl), (Nat.le_of_ble_eq_true rfl)⟩ ?_
      refine jd_goto (tgt := 43) dX4_ofGate_35 (by decide) ?_
      exact jd_iret dX4_ofGate_43 rfl (jd_mo.ok (γ' := γ) (μ' := (mu_s μ 0 0 0)) (by unfold c_ofGate; (try simp only [hT_g, hT_w]); rw [if_pos hcc4, if_pos hcc9]) (by first | (simp only [hT_g, hT_w]; done) | (simp only [hT_g, hT_w]; rfl) | rfl) rfl hw1 rfl (fun j hj => (ho1 j (ll_nel (by decide) hj))))
  · have hcc10 := z3
    refine jd_aload_n dX4_ofGate_13 rfl ?_
    refine jd_iconst (v := 1) dX4_ofGate_14 (by decide) ?_
    refine jd_callV (As := [.int (1)]) (rest := []) (ct_X4_refuse hw1 (1)) (jd_rv (w_mthis hw1) 9 rfl rfl) rfl q1521 q1523 qs50 q90 q1524 nX4_refuse dX4_ofGate_15 rfl rfl rfl (Nat.le_of_ble_eq_true rfl) ⟨(Nat.le_of_ble_eq_true rfl), (Nat.le_of_ble_eq_true rfl), by omega, by omega⟩ (fun rv10 hn10 hq10 => ?_) jd_nox
    obtain ⟨rfl, hw10_, hf10_⟩ := hq10
    exact jd_iret dX4_ofGate_18 rfl (jd_mo.no (γ' := γ) (μ' := (mu_s (mu_s μ 0 0 0) 0 0 1)) (k := 1) (by unfold c_ofGate; rw [if_neg hcc10]) (by decide) rfl hw10_ rfl (fun j hj => ((hf10_ j hj).trans (ho1 j (ll_nel (by decide) hj)))))

set_option maxRecDepth 20000 in
set_option maxHeartbeats 2000000 in
theorem ct_X4_ofSleeper {G : jd_G} {γ : ll_B} {κ : ll_K} {μ : ll_U} {h : jd_H} (hw : WM G γ κ μ h) (hI : ll_I κ) (s : Int32) (w : Int32) : jd_Ct G mX4_ofSleeper 5 (0) (0) [.ref (γ 0 0), .int (s), .int (w)] h (jd_mo G γ κ h (c_ofSleeper κ s w) (.int (sleeperVal κ (tN s) (tN w))) (κ)) jd_no := by
  obtain ⟨⟨hG8, hS12, hP24, hH40, hN99, hH24⟩, hIg, hIs, hIp, hIh, hIl, hIq⟩ := id hI
  obtain ⟨mcG, hlG⟩ := w_mgates hw
  obtain ⟨mcS, hlS⟩ := w_msleepers hw
  obtain ⟨mcP, hlP⟩ := w_mparts hw
  obtain ⟨mcH, hlH⟩ := w_mhidings hw
  refine jd_ct (ls := [some (.ref (γ 0 0)), some (.int (s)), some (.int (w))]) rfl rfl (by decide) (Nat.le_of_ble_eq_true rfl) rfl ?_
  refine jd_aload_n dX4_ofSleeper_0 rfl ?_
  refine jd_iconst (v := 0) dX4_ofSleeper_1 (by decide) ?_
  refine jd_put (fs' := [_, _, _, _, _, _, _, _, _, _, _, _, _]) in_X4 tyX4_ok nmX4 (w_mthis hw) 0 q1466 dX4_ofSleeper_2 rfl (Nat.le_of_ble_eq_true rfl) rfl rfl rfl (Nat.le_of_ble_eq_true rfl) rfl ?_
  refine jd_updG (fun h1 hs1 ho1 => ?_)
  have hw1 := m_thrown hw (v := 0) hs1 ho1
  refine jd_aload_n dX4_ofSleeper_5 rfl ?_
  refine jd_iload_n dX4_ofSleeper_6 rfl ?_
  refine jd_pV (As := [.int (s)]) (rest := []) (ct_X4_isSleeper hw1 hI (s)) (jd_rv (w_mthis hw1) 9 rfl rfl) rfl q1634 q1636 qs52 q90 q1637 nX4_isSleeper dX4_ofSleeper_7 rfl rfl rfl (Nat.le_of_ble_eq_true rfl) ⟨(Nat.le_of_ble_eq_true rfl), (Nat.le_of_ble_eq_true rfl)⟩ ?_
  refine jd_bif_ne (tgt := 19) dX4_ofSleeper_10 (by decide) (fun z2 => ?_) (fun z3 => ?_)
  · have hcc4 := z2
    obtain ⟨k_s, hk_s, rfl⟩ := inN_ex (n := (nS κ)) (by omega) hcc4
    have hT_s := tN_nI (show k_s < 2 ^ 31 by omega)
    refine jd_iload_n dX4_ofSleeper_19 rfl ?_
    refine jd_iconst (v := 0) dX4_ofSleeper_20 (by decide) ?_
    refine jd_bipush (v := 8) dX4_ofSleeper_21 (by decide) ?_
    refine jd_pS (As := [.int (w), .int (0), .int (8)]) (rest := []) (ct_X4_is (w) (0) (8)) rfl q1518 q1519 q90 q1520 nX4_is dX4_ofSleeper_23 rfl rfl (Nat.le_of_ble_eq_true rfl) ⟨(Nat.le_of_ble_eq_true rfl), (Nat.le_of_ble_eq_true rfl)⟩ ?_
    refine jd_bif_eq (tgt := 38) dX4_ofSleeper_26 (by decide) (fun z5 => ?_) (fun z6 => ?_)
    · have hcc7 := z5
      refine jd_aload_n dX4_ofSleeper_38 rfl ?_
      refine jd_iconst (v := 2) dX4_ofSleeper_39 (by decide) ?_
      refine jd_callV (As := [.int (2)]) (rest := []) (ct_X4_refuse hw1 (2)) (jd_rv (w_mthis hw1) 9 rfl rfl) rfl q1521 q1523 qs50 q90 q1524 nX4_refuse dX4_ofSleeper_40 rfl rfl rfl (Nat.le_of_ble_eq_true rfl) ⟨(Nat.le_of_ble_eq_true rfl), (Nat.le_of_ble_eq_true rfl), by omega, by omega⟩ (fun rv7 hn7 hq7 => ?_) jd_nox
      obtain ⟨rfl, hw7_, hf7_⟩ := hq7
      exact jd_iret dX4_ofSleeper_43 rfl (jd_mo.no (γ' := γ) (μ' := (mu_s (mu_s μ 0 0 0) 0 0 2)) (k := 2) (by unfold c_ofSleeper; (try simp only [hT_s]); rw [if_pos hcc4, if_neg hcc7]) (by decide) rfl hw7_ rfl (fun j hj => ((hf7_ j hj).trans (ho1 j (ll_nel (by decide) hj)))))
    · have hcc9 := z6
      obtain ⟨k_w, hk_w, rfl⟩ := inR_ex (lo := 0) (hi := 8) hcc9 (by omega) (by omega)
      have hT_w := tN_nI (show k_w < 2 ^ 31 by omega)
      refine jd_aload_n dX4_ofSleeper_29 rfl ?_
      refine jd_iload_n dX4_ofSleeper_30 rfl ?_
      refine jd_iload_n dX4_ofSleeper_31 rfl ?_
      refine jd_pV (As := [.int (nI k_s), .int (nI k_w)]) (rest := []) (ct_X4_ofSleeperNow hw1 hI (k_s) (by omega) (k_w) (by omega)) (jd_rv (w_mthis hw1) 9 rfl rfl) rfl q1892 q1894 qs69 q90 q1895 nX4_ofSleeperNow dX4_ofSleeper_32 rfl rfl rfl (Nat.le_of_ble_eq_true rfl) ⟨(Nat.le_of_ble_eq_true rfl), (Nat.le_of_ble_eq_true rfl)⟩ ?_
      refine jd_goto (tgt := 43) dX4_ofSleeper_35 (by decide) ?_
      exact jd_iret dX4_ofSleeper_43 rfl (jd_mo.ok (γ' := γ) (μ' := (mu_s μ 0 0 0)) (by unfold c_ofSleeper; (try simp only [hT_s, hT_w]); rw [if_pos hcc4, if_pos hcc9]) (by first | (simp only [hT_s, hT_w]; done) | (simp only [hT_s, hT_w]; rfl) | rfl) rfl hw1 rfl (fun j hj => (ho1 j (ll_nel (by decide) hj))))
  · have hcc10 := z3
    refine jd_aload_n dX4_ofSleeper_13 rfl ?_
    refine jd_iconst (v := 1) dX4_ofSleeper_14 (by decide) ?_
    refine jd_callV (As := [.int (1)]) (rest := []) (ct_X4_refuse hw1 (1)) (jd_rv (w_mthis hw1) 9 rfl rfl) rfl q1521 q1523 qs50 q90 q1524 nX4_refuse dX4_ofSleeper_15 rfl rfl rfl (Nat.le_of_ble_eq_true rfl) ⟨(Nat.le_of_ble_eq_true rfl), (Nat.le_of_ble_eq_true rfl), by omega, by omega⟩ (fun rv10 hn10 hq10 => ?_) jd_nox
    obtain ⟨rfl, hw10_, hf10_⟩ := hq10
    exact jd_iret dX4_ofSleeper_18 rfl (jd_mo.no (γ' := γ) (μ' := (mu_s (mu_s μ 0 0 0) 0 0 1)) (k := 1) (by unfold c_ofSleeper; rw [if_neg hcc10]) (by decide) rfl hw10_ rfl (fun j hj => ((hf10_ j hj).trans (ho1 j (ll_nel (by decide) hj)))))

set_option maxRecDepth 20000 in
set_option maxHeartbeats 2000000 in
theorem ct_X4_ofPart {G : jd_G} {γ : ll_B} {κ : ll_K} {μ : ll_U} {h : jd_H} (hw : WM G γ κ μ h) (hI : ll_I κ) (p : Int32) (w : Int32) : jd_Ct G mX4_ofPart 5 (0) (0) [.ref (γ 0 0), .int (p), .int (w)] h (jd_mo G γ κ h (c_ofPart κ p w) (.int (partVal κ (tN p) (tN w))) (κ)) jd_no := by
  obtain ⟨⟨hG8, hS12, hP24, hH40, hN99, hH24⟩, hIg, hIs, hIp, hIh, hIl, hIq⟩ := id hI
  obtain ⟨mcG, hlG⟩ := w_mgates hw
  obtain ⟨mcS, hlS⟩ := w_msleepers hw
  obtain ⟨mcP, hlP⟩ := w_mparts hw
  obtain ⟨mcH, hlH⟩ := w_mhidings hw
  refine jd_ct (ls := [some (.ref (γ 0 0)), some (.int (p)), some (.int (w))]) rfl rfl (by decide) (Nat.le_of_ble_eq_true rfl) rfl ?_
  refine jd_aload_n dX4_ofPart_0 rfl ?_
  refine jd_iconst (v := 0) dX4_ofPart_1 (by decide) ?_
  refine jd_put (fs' := [_, _, _, _, _, _, _, _, _, _, _, _, _]) in_X4 tyX4_ok nmX4 (w_mthis hw) 0 q1466 dX4_ofPart_2 rfl (Nat.le_of_ble_eq_true rfl) rfl rfl rfl (Nat.le_of_ble_eq_true rfl) rfl ?_
  refine jd_updG (fun h1 hs1 ho1 => ?_)
  have hw1 := m_thrown hw (v := 0) hs1 ho1
  refine jd_aload_n dX4_ofPart_5 rfl ?_
  refine jd_iload_n dX4_ofPart_6 rfl ?_
  refine jd_pV (As := [.int (p)]) (rest := []) (ct_X4_isPart hw1 hI (p)) (jd_rv (w_mthis hw1) 9 rfl rfl) rfl q1669 q1671 qs53 q90 q1672 nX4_isPart dX4_ofPart_7 rfl rfl rfl (Nat.le_of_ble_eq_true rfl) ⟨(Nat.le_of_ble_eq_true rfl), (Nat.le_of_ble_eq_true rfl)⟩ ?_
  refine jd_bif_ne (tgt := 19) dX4_ofPart_10 (by decide) (fun z2 => ?_) (fun z3 => ?_)
  · have hcc4 := z2
    obtain ⟨k_p, hk_p, rfl⟩ := inN_ex (n := (nP κ)) (by omega) hcc4
    have hT_p := tN_nI (show k_p < 2 ^ 31 by omega)
    refine jd_iload_n dX4_ofPart_19 rfl ?_
    refine jd_iconst (v := 0) dX4_ofPart_20 (by decide) ?_
    refine jd_iconst (v := 5) dX4_ofPart_21 (by decide) ?_
    refine jd_pS (As := [.int (w), .int (0), .int (5)]) (rest := []) (ct_X4_is (w) (0) (5)) rfl q1518 q1519 q90 q1520 nX4_is dX4_ofPart_22 rfl rfl (Nat.le_of_ble_eq_true rfl) ⟨(Nat.le_of_ble_eq_true rfl), (Nat.le_of_ble_eq_true rfl)⟩ ?_
    refine jd_bif_eq (tgt := 37) dX4_ofPart_25 (by decide) (fun z5 => ?_) (fun z6 => ?_)
    · have hcc7 := z5
      refine jd_aload_n dX4_ofPart_37 rfl ?_
      refine jd_iconst (v := 2) dX4_ofPart_38 (by decide) ?_
      refine jd_callV (As := [.int (2)]) (rest := []) (ct_X4_refuse hw1 (2)) (jd_rv (w_mthis hw1) 9 rfl rfl) rfl q1521 q1523 qs50 q90 q1524 nX4_refuse dX4_ofPart_39 rfl rfl rfl (Nat.le_of_ble_eq_true rfl) ⟨(Nat.le_of_ble_eq_true rfl), (Nat.le_of_ble_eq_true rfl), by omega, by omega⟩ (fun rv7 hn7 hq7 => ?_) jd_nox
      obtain ⟨rfl, hw7_, hf7_⟩ := hq7
      exact jd_iret dX4_ofPart_42 rfl (jd_mo.no (γ' := γ) (μ' := (mu_s (mu_s μ 0 0 0) 0 0 2)) (k := 2) (by unfold c_ofPart; (try simp only [hT_p]); rw [if_pos hcc4, if_neg hcc7]) (by decide) rfl hw7_ rfl (fun j hj => ((hf7_ j hj).trans (ho1 j (ll_nel (by decide) hj)))))
    · have hcc9 := z6
      obtain ⟨k_w, hk_w, rfl⟩ := inR_ex (lo := 0) (hi := 5) hcc9 (by omega) (by omega)
      have hT_w := tN_nI (show k_w < 2 ^ 31 by omega)
      refine jd_aload_n dX4_ofPart_28 rfl ?_
      refine jd_iload_n dX4_ofPart_29 rfl ?_
      refine jd_iload_n dX4_ofPart_30 rfl ?_
      refine jd_pV (As := [.int (nI k_p), .int (nI k_w)]) (rest := []) (ct_X4_ofPartNow hw1 hI (k_p) (by omega) (k_w) (by omega)) (jd_rv (w_mthis hw1) 9 rfl rfl) rfl q1904 q1906 qs71 q90 q1907 nX4_ofPartNow dX4_ofPart_31 rfl rfl rfl (Nat.le_of_ble_eq_true rfl) ⟨(Nat.le_of_ble_eq_true rfl), (Nat.le_of_ble_eq_true rfl)⟩ ?_
      refine jd_goto (tgt := 42) dX4_ofPart_34 (by decide) ?_
      exact jd_iret dX4_ofPart_42 rfl (jd_mo.ok (γ' := γ) (μ' := (mu_s μ 0 0 0)) (by unfold c_ofPart; (try simp only [hT_p, hT_w]); rw [if_pos hcc4, if_pos hcc9]) (by first | (simp only [hT_p, hT_w]; done) | (simp only [hT_p, hT_w]; rfl) | rfl) rfl hw1 rfl (fun j hj => (ho1 j (ll_nel (by decide) hj))))
  · have hcc10 := z3
    refine jd_aload_n dX4_ofPart_13 rfl ?_
    refine jd_iconst (v := 1) dX4_ofPart_14 (by decide) ?_
    refine jd_callV (As := [.int (1)]) (rest := []) (ct_X4_refuse hw1 (1)) (jd_rv (w_mthis hw1) 9 rfl rfl) rfl q1521 q1523 qs50 q90 q1524 nX4_refuse dX4_ofPart_15 rfl rfl rfl (Nat.le_of_ble_eq_true rfl) ⟨(Nat.le_of_ble_eq_true rfl), (Nat.le_of_ble_eq_true rfl), by omega, by omega⟩ (fun rv10 hn10 hq10 => ?_) jd_nox
    obtain ⟨rfl, hw10_, hf10_⟩ := hq10
    exact jd_iret dX4_ofPart_18 rfl (jd_mo.no (γ' := γ) (μ' := (mu_s (mu_s μ 0 0 0) 0 0 1)) (k := 1) (by unfold c_ofPart; rw [if_neg hcc10]) (by decide) rfl hw10_ rfl (fun j hj => ((hf10_ j hj).trans (ho1 j (ll_nel (by decide) hj)))))

set_option maxRecDepth 20000 in
set_option maxHeartbeats 2000000 in
theorem ct_X4_night {G : jd_G} {γ : ll_B} {κ : ll_K} {μ : ll_U} {h : jd_H} (hw : WM G γ κ μ h) (hI : ll_I κ) (w : Int32) : jd_Ct G mX4_night 4 (1) (4) [.ref (γ 0 0), .int (w)] h (jd_mo G γ κ h (c_night w) (.int (nightVal κ (tN w))) (κ)) jd_no := by
  obtain ⟨⟨hG8, hS12, hP24, hH40, hN99, hH24⟩, hIg, hIs, hIp, hIh, hIl, hIq⟩ := id hI
  obtain ⟨mcG, hlG⟩ := w_mgates hw
  obtain ⟨mcS, hlS⟩ := w_msleepers hw
  obtain ⟨mcP, hlP⟩ := w_mparts hw
  obtain ⟨mcH, hlH⟩ := w_mhidings hw
  refine jd_ct (ls := [some (.ref (γ 0 0)), some (.int (w))]) rfl rfl (by decide) (Nat.le_of_ble_eq_true rfl) rfl ?_
  refine jd_aload_n dX4_night_0 rfl ?_
  refine jd_iconst (v := 0) dX4_night_1 (by decide) ?_
  refine jd_put (fs' := [_, _, _, _, _, _, _, _, _, _, _, _, _]) in_X4 tyX4_ok nmX4 (w_mthis hw) 0 q1466 dX4_night_2 rfl (Nat.le_of_ble_eq_true rfl) rfl rfl rfl (Nat.le_of_ble_eq_true rfl) rfl ?_
  refine jd_updG (fun h1 hs1 ho1 => ?_)
  have hw1 := m_thrown hw (v := 0) hs1 ho1
  refine jd_iload_n dX4_night_5 rfl ?_
  refine jd_iconst (v := 0) dX4_night_6 (by decide) ?_
  refine jd_bipush (v := 16) dX4_night_7 (by decide) ?_
  refine jd_pS (As := [.int (w), .int (0), .int (16)]) (rest := []) (ct_X4_is (w) (0) (16)) rfl q1518 q1519 q90 q1520 nX4_is dX4_night_9 rfl rfl (Nat.le_of_ble_eq_true rfl) ⟨(Nat.le_of_ble_eq_true rfl), (Nat.le_of_ble_eq_true rfl)⟩ ?_
  refine jd_bif_eq (tgt := 23) dX4_night_12 (by decide) (fun z2 => ?_) (fun z3 => ?_)
  · have hcc4 := z2
    refine jd_aload_n dX4_night_23 rfl ?_
    refine jd_iconst (v := 1) dX4_night_24 (by decide) ?_
    refine jd_callV (As := [.int (1)]) (rest := []) (ct_X4_refuse hw1 (1)) (jd_rv (w_mthis hw1) 9 rfl rfl) rfl q1521 q1523 qs50 q90 q1524 nX4_refuse dX4_night_25 rfl rfl rfl (Nat.le_of_ble_eq_true rfl) ⟨(Nat.le_of_ble_eq_true rfl), (Nat.le_of_ble_eq_true rfl), by omega, by omega⟩ (fun rv4 hn4 hq4 => ?_) jd_nox
    obtain ⟨rfl, hw4_, hf4_⟩ := hq4
    exact jd_iret dX4_night_28 rfl (jd_mo.no (γ' := γ) (μ' := (mu_s (mu_s μ 0 0 0) 0 0 1)) (k := 1) (by unfold c_night; rw [if_neg hcc4]) (by decide) rfl hw4_ rfl (fun j hj => ((hf4_ j hj).trans (ho1 j (ll_nel (by decide) hj)))))
  · have hcc6 := z3
    obtain ⟨k_w, hk_w, rfl⟩ := inR_ex (lo := 0) (hi := 16) hcc6 (by omega) (by omega)
    have hT_w := tN_nI (show k_w < 2 ^ 31 by omega)
    refine jd_aload_n dX4_night_15 rfl ?_
    refine jd_iload_n dX4_night_16 rfl ?_
    refine jd_callV (As := [.int (nI k_w)]) (rest := []) (ct_X4_nightNow hw1 hI (k_w) (by omega)) (jd_rv (w_mthis hw1) 9 rfl rfl) rfl q1929 q1931 qs72 q90 q1932 nX4_nightNow dX4_night_17 rfl rfl rfl (Nat.le_of_ble_eq_true rfl) ⟨(Nat.le_of_ble_eq_true rfl), (Nat.le_of_ble_eq_true rfl), by omega, by omega⟩ (fun rv6 hn6 hq6 => ?_) jd_nox
    obtain ⟨rfl, he6⟩ := hq6
    rw [he6]
    refine jd_goto (tgt := 28) dX4_night_20 (by decide) ?_
    exact jd_iret dX4_night_28 rfl (jd_mo.ok (γ' := γ) (μ' := (mu_s μ 0 0 0)) (by unfold c_night; (try simp only [hT_w]); rw [if_pos hcc6]) (by first | (simp only [hT_w]; done) | (simp only [hT_w]; rfl) | rfl) rfl hw1 rfl (fun j hj => (ho1 j (ll_nel (by decide) hj))))

set_option maxRecDepth 20000 in
set_option maxHeartbeats 2000000 in
theorem ct_X4_way {G : jd_G} {γ : ll_B} {κ : ll_K} {μ : ll_U} {h : jd_H} (hw : WM G γ κ μ h) (hI : ll_I κ) (f : Int32) (d : Int32) : jd_Ct G mX4_way 4 (0) (0) [.ref (γ 0 0), .int (f), .int (d)] h (jd_mo G γ κ h (c_way f d) (.int (wayN κ (tN f) (tN d))) (κ)) jd_no := by
  obtain ⟨⟨hG8, hS12, hP24, hH40, hN99, hH24⟩, hIg, hIs, hIp, hIh, hIl, hIq⟩ := id hI
  obtain ⟨mcG, hlG⟩ := w_mgates hw
  obtain ⟨mcS, hlS⟩ := w_msleepers hw
  obtain ⟨mcP, hlP⟩ := w_mparts hw
  obtain ⟨mcH, hlH⟩ := w_mhidings hw
  refine jd_ct (ls := [some (.ref (γ 0 0)), some (.int (f)), some (.int (d))]) rfl rfl (by decide) (Nat.le_of_ble_eq_true rfl) rfl ?_
  refine jd_aload_n dX4_way_0 rfl ?_
  refine jd_iconst (v := 0) dX4_way_1 (by decide) ?_
  refine jd_put (fs' := [_, _, _, _, _, _, _, _, _, _, _, _, _]) in_X4 tyX4_ok nmX4 (w_mthis hw) 0 q1466 dX4_way_2 rfl (Nat.le_of_ble_eq_true rfl) rfl rfl rfl (Nat.le_of_ble_eq_true rfl) rfl ?_
  refine jd_updG (fun h1 hs1 ho1 => ?_)
  have hw1 := m_thrown hw (v := 0) hs1 ho1
  refine jd_aload_n dX4_way_5 rfl ?_
  refine jd_iload_n dX4_way_6 rfl ?_
  refine jd_pV (As := [.int (f)]) (rest := []) (ct_X4_isLand hw1 hI (f)) (jd_rv (w_mthis hw1) 9 rfl rfl) rfl q1514 q1516 qs49 q90 q1517 nX4_isLand dX4_way_7 rfl rfl rfl (Nat.le_of_ble_eq_true rfl) ⟨(Nat.le_of_ble_eq_true rfl), (Nat.le_of_ble_eq_true rfl)⟩ ?_
  refine jd_bif_eq (tgt := 30) dX4_way_10 (by decide) (fun z2 => ?_) (fun z3 => ?_)
  · have hcc4 := (show ¬ (¬ f < 0 ∧ f < 6) from z2)
    refine jd_aload_n dX4_way_30 rfl ?_
    refine jd_iconst (v := 1) dX4_way_31 (by decide) ?_
    refine jd_callV (As := [.int (1)]) (rest := []) (ct_X4_refuse hw1 (1)) (jd_rv (w_mthis hw1) 9 rfl rfl) rfl q1521 q1523 qs50 q90 q1524 nX4_refuse dX4_way_32 rfl rfl rfl (Nat.le_of_ble_eq_true rfl) ⟨(Nat.le_of_ble_eq_true rfl), (Nat.le_of_ble_eq_true rfl), by omega, by omega⟩ (fun rv4 hn4 hq4 => ?_) jd_nox
    obtain ⟨rfl, hw4_, hf4_⟩ := hq4
    exact jd_iret dX4_way_35 rfl (jd_mo.no (γ' := γ) (μ' := (mu_s (mu_s μ 0 0 0) 0 0 1)) (k := 1) (by unfold c_way; rw [if_neg hcc4]) (by decide) rfl hw4_ rfl (fun j hj => ((hf4_ j hj).trans (ho1 j (ll_nel (by decide) hj)))))
  · have hcc6 := (show ¬ f < 0 ∧ f < 6 from z3)
    obtain ⟨k_f, hk_f, rfl⟩ := inN_ex (n := 6) (by decide) hcc6
    have hT_f := tN_nI (show k_f < 2 ^ 31 by omega)
    refine jd_aload_n dX4_way_13 rfl ?_
    refine jd_iload_n dX4_way_14 rfl ?_
    refine jd_pV (As := [.int (d)]) (rest := []) (ct_X4_isLand hw1 hI (d)) (jd_rv (w_mthis hw1) 9 rfl rfl) rfl q1514 q1516 qs49 q90 q1517 nX4_isLand dX4_way_15 rfl rfl rfl (Nat.le_of_ble_eq_true rfl) ⟨(Nat.le_of_ble_eq_true rfl), (Nat.le_of_ble_eq_true rfl)⟩ ?_
    refine jd_bif_eq (tgt := 30) dX4_way_18 (by decide) (fun z7 => ?_) (fun z8 => ?_)
    · have hcc9 := (show ¬ (¬ d < 0 ∧ d < 6) from z7)
      refine jd_aload_n dX4_way_30 rfl ?_
      refine jd_iconst (v := 1) dX4_way_31 (by decide) ?_
      refine jd_callV (As := [.int (1)]) (rest := []) (ct_X4_refuse hw1 (1)) (jd_rv (w_mthis hw1) 9 rfl rfl) rfl q1521 q1523 qs50 q90 q1524 nX4_refuse dX4_way_32 rfl rfl rfl (Nat.le_of_ble_eq_true rfl) ⟨(Nat.le_of_ble_eq_true rfl), (Nat.le_of_ble_eq_true rfl), by omega, by omega⟩ (fun rv9 hn9 hq9 => ?_) jd_nox
      obtain ⟨rfl, hw9_, hf9_⟩ := hq9
      exact jd_iret dX4_way_35 rfl (jd_mo.no (γ' := γ) (μ' := (mu_s (mu_s μ 0 0 0) 0 0 1)) (k := 1) (by unfold c_way; (try simp only [hT_f]); rw [if_pos hcc6, if_neg hcc9]) (by decide) rfl hw9_ rfl (fun j hj => ((hf9_ j hj).trans (ho1 j (ll_nel (by decide) hj)))))
    · have hcc11 := (show ¬ d < 0 ∧ d < 6 from z8)
      obtain ⟨k_d, hk_d, rfl⟩ := inN_ex (n := 6) (by decide) hcc11
      have hT_d := tN_nI (show k_d < 2 ^ 31 by omega)
      refine jd_aload_n dX4_way_21 rfl ?_
      refine jd_iload_n dX4_way_22 rfl ?_
      refine jd_iload_n dX4_way_23 rfl ?_
      refine jd_pV (As := [.int (nI k_f), .int (nI k_d)]) (rest := []) (ct_X4_wayNow hw1 hI (k_f) (by omega) (k_d) (by omega)) (jd_rv (w_mthis hw1) 9 rfl rfl) rfl q1937 q1939 qs73 q90 q1940 nX4_wayNow dX4_way_24 rfl rfl rfl (Nat.le_of_ble_eq_true rfl) ⟨(Nat.le_of_ble_eq_true rfl), (Nat.le_of_ble_eq_true rfl)⟩ ?_
      refine jd_goto (tgt := 35) dX4_way_27 (by decide) ?_
      exact jd_iret dX4_way_35 rfl (jd_mo.ok (γ' := γ) (μ' := (mu_s μ 0 0 0)) (by unfold c_way; (try simp only [hT_f, hT_d]); rw [if_pos hcc6, if_pos hcc11]) (by first | (simp only [hT_f, hT_d]; done) | (simp only [hT_f, hT_d]; rfl) | rfl) rfl hw1 rfl (fun j hj => (ho1 j (ll_nel (by decide) hj))))

set_option maxRecDepth 20000 in
set_option maxHeartbeats 2000000 in
theorem ct_X4_wouldPay {G : jd_G} {γ : ll_B} {κ : ll_K} {μ : ll_U} {h : jd_H} (hw : WM G γ κ μ h) (hI : ll_I κ) (g : Int32) : jd_Ct G mX4_wouldPay 5 (0) (0) [.ref (γ 0 0), .int (g)] h (jd_mo G γ κ h (c_gate1 κ g) (.int (wouldPay κ (tN g))) (κ)) jd_no := by
  obtain ⟨⟨hG8, hS12, hP24, hH40, hN99, hH24⟩, hIg, hIs, hIp, hIh, hIl, hIq⟩ := id hI
  obtain ⟨mcG, hlG⟩ := w_mgates hw
  obtain ⟨mcS, hlS⟩ := w_msleepers hw
  obtain ⟨mcP, hlP⟩ := w_mparts hw
  obtain ⟨mcH, hlH⟩ := w_mhidings hw
  refine jd_ct (ls := [some (.ref (γ 0 0)), some (.int (g))]) rfl rfl (by decide) (Nat.le_of_ble_eq_true rfl) rfl ?_
  refine jd_aload_n dX4_wouldPay_0 rfl ?_
  refine jd_iconst (v := 0) dX4_wouldPay_1 (by decide) ?_
  refine jd_put (fs' := [_, _, _, _, _, _, _, _, _, _, _, _, _]) in_X4 tyX4_ok nmX4 (w_mthis hw) 0 q1466 dX4_wouldPay_2 rfl (Nat.le_of_ble_eq_true rfl) rfl rfl rfl (Nat.le_of_ble_eq_true rfl) rfl ?_
  refine jd_updG (fun h1 hs1 ho1 => ?_)
  have hw1 := m_thrown hw (v := 0) hs1 ho1
  refine jd_aload_n dX4_wouldPay_5 rfl ?_
  refine jd_iload_n dX4_wouldPay_6 rfl ?_
  refine jd_pV (As := [.int (g)]) (rest := []) (ct_X4_isGate hw1 hI (g)) (jd_rv (w_mthis hw1) 9 rfl rfl) rfl q1580 q1582 qs51 q90 q1583 nX4_isGate dX4_wouldPay_7 rfl rfl rfl (Nat.le_of_ble_eq_true rfl) ⟨(Nat.le_of_ble_eq_true rfl), (Nat.le_of_ble_eq_true rfl)⟩ ?_
  refine jd_bif_eq (tgt := 21) dX4_wouldPay_10 (by decide) (fun z2 => ?_) (fun z3 => ?_)
  · have hcc4 := z2
    refine jd_aload_n dX4_wouldPay_21 rfl ?_
    refine jd_iconst (v := 1) dX4_wouldPay_22 (by decide) ?_
    refine jd_callV (As := [.int (1)]) (rest := []) (ct_X4_refuse hw1 (1)) (jd_rv (w_mthis hw1) 9 rfl rfl) rfl q1521 q1523 qs50 q90 q1524 nX4_refuse dX4_wouldPay_23 rfl rfl rfl (Nat.le_of_ble_eq_true rfl) ⟨(Nat.le_of_ble_eq_true rfl), (Nat.le_of_ble_eq_true rfl), by omega, by omega⟩ (fun rv4 hn4 hq4 => ?_) jd_nox
    obtain ⟨rfl, hw4_, hf4_⟩ := hq4
    exact jd_iret dX4_wouldPay_26 rfl (jd_mo.no (γ' := γ) (μ' := (mu_s (mu_s μ 0 0 0) 0 0 1)) (k := 1) (by unfold c_gate1; rw [if_neg hcc4]) (by decide) rfl hw4_ rfl (fun j hj => ((hf4_ j hj).trans (ho1 j (ll_nel (by decide) hj)))))
  · have hcc6 := z3
    obtain ⟨k_g, hk_g, rfl⟩ := inN_ex (n := (nG κ)) (by omega) hcc6
    have hT_g := tN_nI (show k_g < 2 ^ 31 by omega)
    refine jd_aload_n dX4_wouldPay_13 rfl ?_
    refine jd_iload_n dX4_wouldPay_14 rfl ?_
    refine jd_pV (As := [.int (nI k_g)]) (rest := []) (ct_X4_wouldPayNow hw1 hI (k_g) (by omega)) (jd_rv (w_mthis hw1) 9 rfl rfl) rfl q1958 q1960 qs76 q90 q1961 nX4_wouldPayNow dX4_wouldPay_15 rfl rfl rfl (Nat.le_of_ble_eq_true rfl) ⟨(Nat.le_of_ble_eq_true rfl), (Nat.le_of_ble_eq_true rfl)⟩ ?_
    refine jd_goto (tgt := 26) dX4_wouldPay_18 (by decide) ?_
    exact jd_iret dX4_wouldPay_26 rfl (jd_mo.ok (γ' := γ) (μ' := (mu_s μ 0 0 0)) (by unfold c_gate1; (try simp only [hT_g]); rw [if_pos hcc6]) (by first | (simp only [hT_g]; done) | (simp only [hT_g]; rfl) | rfl) rfl hw1 rfl (fun j hj => (ho1 j (ll_nel (by decide) hj))))

set_option maxRecDepth 20000 in
set_option maxHeartbeats 2000000 in
theorem ct_X4_trade {G : jd_G} {γ : ll_B} {κ : ll_K} {μ : ll_U} {h : jd_H} (hw : WM G γ κ μ h) (hI : ll_I κ) (f : Int32) (t : Int32) (m : Int32) : jd_Ct G mX4_trade 2 (0) (0) [.ref (γ 0 0), .int (f), .int (t), .int (m)] h (jd_mo G γ κ h (c_trade κ f t m) (.int (lQuo (k_trade κ (tN f) (tN t) m) (tN t))) (k_trade κ (tN f) (tN t) m)) jd_no := by
  obtain ⟨⟨hG8, hS12, hP24, hH40, hN99, hH24⟩, hIg, hIs, hIp, hIh, hIl, hIq⟩ := id hI
  obtain ⟨mcG, hlG⟩ := w_mgates hw
  obtain ⟨mcS, hlS⟩ := w_msleepers hw
  obtain ⟨mcP, hlP⟩ := w_mparts hw
  obtain ⟨mcH, hlH⟩ := w_mhidings hw
  refine jd_ct (ls := [some (.ref (γ 0 0)), some (.int (f)), some (.int (t)), some (.int (m))]) rfl rfl (by decide) (Nat.le_of_ble_eq_true rfl) rfl ?_
  refine jd_aload_n dX4_trade_0 rfl ?_
  refine jd_iconst (v := 0) dX4_trade_1 (by decide) ?_
  refine jd_put (fs' := [_, _, _, _, _, _, _, _, _, _, _, _, _]) in_X4 tyX4_ok nmX4 (w_mthis hw) 0 q1466 dX4_trade_2 rfl (Nat.le_of_ble_eq_true rfl) rfl rfl rfl (Nat.le_of_ble_eq_true rfl) rfl ?_
  refine jd_updG (fun h1 hs1 ho1 => ?_)
  have hw1 := m_thrown hw (v := 0) hs1 ho1
  refine jd_aload_n dX4_trade_5 rfl ?_
  refine jd_iload_n dX4_trade_6 rfl ?_
  refine jd_pV (As := [.int (f)]) (rest := []) (ct_X4_isLand hw1 hI (f)) (jd_rv (w_mthis hw1) 9 rfl rfl) rfl q1514 q1516 qs49 q90 q1517 nX4_isLand dX4_trade_7 rfl rfl rfl (Nat.le_of_ble_eq_true rfl) ⟨(Nat.le_of_ble_eq_true rfl), (Nat.le_of_ble_eq_true rfl)⟩ ?_
  refine jd_bif_eq (tgt := 21) dX4_trade_10 (by decide) (fun z2 => ?_) (fun z3 => ?_)
  · have hcc4 := z2
    refine jd_aload_n dX4_trade_21 rfl ?_
    refine jd_iconst (v := 1) dX4_trade_22 (by decide) ?_
    refine jd_callV (As := [.int (1)]) (rest := []) (ct_X4_refuse hw1 (1)) (jd_rv (w_mthis hw1) 9 rfl rfl) rfl q1521 q1523 qs50 q90 q1524 nX4_refuse dX4_trade_23 rfl rfl rfl (Nat.le_of_ble_eq_true rfl) ⟨(Nat.le_of_ble_eq_true rfl), (Nat.le_of_ble_eq_true rfl), by omega, by omega⟩ (fun rv4 hn4 hq4 => ?_) jd_nox
    obtain ⟨rfl, hw4_, hf4_⟩ := hq4
    exact jd_iret dX4_trade_26 rfl (jd_mo.no (γ' := γ) (μ' := (mu_s (mu_s μ 0 0 0) 0 0 1)) (k := 1) (by unfold c_trade; rw [if_neg hcc4]) (by decide) rfl hw4_ rfl (fun j hj => ((hf4_ j hj).trans (ho1 j (ll_nel (by decide) hj)))))
  · have hcc6 := z3
    obtain ⟨k_f, hk_f, rfl⟩ := inN_ex (n := 6) (by decide) hcc6
    have hT_f := tN_nI (show k_f < 2 ^ 31 by omega)
    refine jd_aload_n dX4_trade_13 rfl ?_
    refine jd_iload_n dX4_trade_14 rfl ?_
    refine jd_pV (As := [.int (t)]) (rest := []) (ct_X4_isLand hw1 hI (t)) (jd_rv (w_mthis hw1) 9 rfl rfl) rfl q1514 q1516 qs49 q90 q1517 nX4_isLand dX4_trade_15 rfl rfl rfl (Nat.le_of_ble_eq_true rfl) ⟨(Nat.le_of_ble_eq_true rfl), (Nat.le_of_ble_eq_true rfl)⟩ ?_
    refine jd_bif_ne (tgt := 27) dX4_trade_18 (by decide) (fun z7 => ?_) (fun z8 => ?_)
    · have hcc9 := z7
      obtain ⟨k_t, hk_t, rfl⟩ := inN_ex (n := 6) (by decide) hcc9
      have hT_t := tN_nI (show k_t < 2 ^ 31 by omega)
      refine jd_iload_n dX4_trade_27 rfl ?_
      refine jd_iload_n dX4_trade_28 rfl ?_
      refine jd_ncmp_eq (a := k_f) (b := k_t) (tgt := 36) dX4_trade_29 (by decide) (by omega) (by omega) (fun z10 => ?_) (fun z11 => ?_)
      · have hcc12 := (not_not_intro z10)
        refine jd_aload_n dX4_trade_36 rfl ?_
        refine jd_iconst (v := 2) dX4_trade_37 (by decide) ?_
        refine jd_callV (As := [.int (2)]) (rest := []) (ct_X4_refuse hw1 (2)) (jd_rv (w_mthis hw1) 9 rfl rfl) rfl q1521 q1523 qs50 q90 q1524 nX4_refuse dX4_trade_38 rfl rfl rfl (Nat.le_of_ble_eq_true rfl) ⟨(Nat.le_of_ble_eq_true rfl), (Nat.le_of_ble_eq_true rfl), by omega, by omega⟩ (fun rv12 hn12 hq12 => ?_) jd_nox
        obtain ⟨rfl, hw12_, hf12_⟩ := hq12
        exact jd_iret dX4_trade_41 rfl (jd_mo.no (γ' := γ) (μ' := (mu_s (mu_s μ 0 0 0) 0 0 2)) (k := 2) (by unfold c_trade; (try simp only [hT_f, hT_t]); rw [if_pos hcc6, if_pos hcc9, if_neg (fun w => hcc12 w.1)]) (by decide) rfl hw12_ rfl (fun j hj => ((hf12_ j hj).trans (ho1 j (ll_nel (by decide) hj)))))
      · have hcc14 := z11
        refine jd_iload_n dX4_trade_32 rfl ?_
        refine jd_if_ge (tgt := 42) dX4_trade_33 (by decide) (fun z15 => ?_) (fun z16 => ?_)
        · have hcc17 := (Int32.not_lt.mpr z15)
          refine jd_aload_n dX4_trade_42 rfl ?_
          refine jd_get in_X4 (w_mthis hw1) 6 q1472 dX4_trade_43 rfl (Nat.le_of_ble_eq_true rfl) rfl ?_
          refine jd_iload_n dX4_trade_46 rfl ?_
          refine jd_aald (y := γ 1 k_f) (w_mlands hw1) dX4_trade_47 5 rfl (vp_in_nI (by omega) (by omega)) (by rw [nI_clamp (by omega)]) ?_
          refine jd_getN in_X5 ((w_mland hw1) k_f (show k_f < 6 by omega)) 2 q1449 dX4_trade_48 rfl (Nat.le_of_ble_eq_true rfl) rfl ?_
          refine jd_iload_n dX4_trade_51 rfl ?_
          refine jd_icmp_lt (tgt := 71) dX4_trade_52 (by decide) (fun z18 => ?_) (fun z19 => ?_)
          · have hcc20 := (not_not_intro z18)
            refine jd_aload_n dX4_trade_71 rfl ?_
            refine jd_iconst (v := 3) dX4_trade_72 (by decide) ?_
            refine jd_callV (As := [.int (3)]) (rest := []) (ct_X4_refuse hw1 (3)) (jd_rv (w_mthis hw1) 9 rfl rfl) rfl q1521 q1523 qs50 q90 q1524 nX4_refuse dX4_trade_73 rfl rfl rfl (Nat.le_of_ble_eq_true rfl) ⟨(Nat.le_of_ble_eq_true rfl), (Nat.le_of_ble_eq_true rfl), by omega, by omega⟩ (fun rv20 hn20 hq20 => ?_) jd_nox
            obtain ⟨rfl, hw20_, hf20_⟩ := hq20
            exact jd_iret dX4_trade_76 rfl (jd_mo.no (γ' := γ) (μ' := (mu_s (mu_s μ 0 0 0) 0 0 3)) (k := 3) (by unfold c_trade; (try simp only [hT_f, hT_t]); rw [if_pos hcc6, if_pos hcc9, if_pos ⟨hcc14, hcc17⟩, if_neg (fun w => hcc20 w.1)]) (by decide) rfl hw20_ rfl (fun j hj => ((hf20_ j hj).trans (ho1 j (ll_nel (by decide) hj)))))
          · have hcc22 := z19
            refine jd_aload_n dX4_trade_55 rfl ?_
            refine jd_get in_X4 (w_mthis hw1) 6 q1472 dX4_trade_56 rfl (Nat.le_of_ble_eq_true rfl) rfl ?_
            refine jd_iload_n dX4_trade_59 rfl ?_
            refine jd_aald (y := γ 1 k_t) (w_mlands hw1) dX4_trade_60 5 rfl (vp_in_nI (by omega) (by omega)) (by rw [nI_clamp (by omega)]) ?_
            refine jd_getN in_X5 ((w_mland hw1) k_t (show k_t < 6 by omega)) 2 q1449 dX4_trade_61 rfl (Nat.le_of_ble_eq_true rfl) rfl ?_
            refine jd_iload_n dX4_trade_64 rfl ?_
            refine jd_iadd dX4_trade_65 ?_
            refine jd_bipush (v := 30) dX4_trade_66 (by decide) ?_
            refine jd_icmp_le (tgt := 77) dX4_trade_68 (by decide) (fun z23 => ?_) (fun z24 => ?_)
            · have hcc25 := (Int32.not_lt.mpr z23)
              refine jd_aload_n dX4_trade_77 rfl ?_
              refine jd_get in_X4 (w_mthis hw1) 6 q1472 dX4_trade_78 rfl (Nat.le_of_ble_eq_true rfl) rfl ?_
              refine jd_iload_n dX4_trade_81 rfl ?_
              refine jd_aald (y := γ 1 k_f) (w_mlands hw1) dX4_trade_82 5 rfl (vp_in_nI (by omega) (by omega)) (by rw [nI_clamp (by omega)]) ?_
              refine jd_dup dX4_trade_83 rfl ?_
              refine jd_getN in_X5 ((w_mland hw1) k_f (show k_f < 6 by omega)) 2 q1449 dX4_trade_84 rfl (Nat.le_of_ble_eq_true rfl) rfl ?_
              refine jd_iload_n dX4_trade_87 rfl ?_
              refine jd_isub dX4_trade_88 ?_
              refine jd_putN (fs' := [_, _, _, _, _, _]) in_X5 tyX5_ok nmX5 ((w_mland hw1) k_f (show k_f < 6 by omega)) 2 q1449 dX4_trade_89 rfl (Nat.le_of_ble_eq_true rfl) rfl rfl rfl (Nat.le_of_ble_eq_true rfl) rfl ?_
              refine jd_updG (fun h26 hs26 ho26 => ?_)
              have hw26 := m_lQuo hw1 (k := k_f) (show k_f < 6 by omega) (v := ((lQuo κ k_f) - m)) hs26 ho26
              refine jd_aload_n dX4_trade_92 rfl ?_
              refine jd_get in_X4 (w_mthis hw26) 6 q1472 dX4_trade_93 rfl (Nat.le_of_ble_eq_true rfl) rfl ?_
              refine jd_iload_n dX4_trade_96 rfl ?_
              refine jd_aald (y := γ 1 k_t) (w_mlands hw26) dX4_trade_97 5 rfl (vp_in_nI (by omega) (by omega)) (by rw [nI_clamp (by omega)]) ?_
              refine jd_dup dX4_trade_98 rfl ?_
              refine jd_getN in_X5 ((w_mland hw26) k_t (show k_t < 6 by omega)) 2 q1449 dX4_trade_99 rfl (Nat.le_of_ble_eq_true rfl) rfl ?_
              refine jd_iload_n dX4_trade_102 rfl ?_
              refine jd_iadd dX4_trade_103 ?_
              refine jd_putN (fs' := [_, _, _, _, _, _]) in_X5 tyX5_ok nmX5 ((w_mland hw26) k_t (show k_t < 6 by omega)) 2 q1449 dX4_trade_104 rfl (Nat.le_of_ble_eq_true rfl) rfl rfl rfl (Nat.le_of_ble_eq_true rfl) rfl ?_
              refine jd_updG (fun h27 hs27 ho27 => ?_)
              have hw27 := m_lQuo hw26 (k := k_t) (show k_t < 6 by omega) (v := ((lQuo (ll_sz κ 2 k_f (((lQuo κ k_f) - m))) k_t) + m)) hs27 ho27
              refine jd_aload_n dX4_trade_107 rfl ?_
              refine jd_get in_X4 (w_mthis hw27) 6 q1472 dX4_trade_108 rfl (Nat.le_of_ble_eq_true rfl) rfl ?_
              refine jd_iload_n dX4_trade_111 rfl ?_
              refine jd_aald (y := γ 1 k_t) (w_mlands hw27) dX4_trade_112 5 rfl (vp_in_nI (by omega) (by omega)) (by rw [nI_clamp (by omega)]) ?_
              refine jd_getN in_X5 ((w_mland hw27) k_t (show k_t < 6 by omega)) 2 q1449 dX4_trade_113 rfl (Nat.le_of_ble_eq_true rfl) rfl ?_
              exact jd_iret dX4_trade_116 rfl (jd_mo.ok (γ' := γ) (μ' := (mu_s μ 0 0 0)) (by unfold c_trade; (try simp only [hT_f, hT_t]); rw [if_pos hcc6, if_pos hcc9, if_pos ⟨hcc14, hcc17⟩, if_pos ⟨hcc22, hcc25⟩]) (by first | (simp only [hT_f, hT_t]; done) | (simp only [hT_f, hT_t]; rfl) | rfl) rfl (by first | (simp only [hT_f, hT_t]; exact hw27) | exact hw27) rfl (fun j hj => ((ho27 j (ll_nel (by decide) hj)).trans ((ho26 j (ll_nel (by decide) hj)).trans (ho1 j (ll_nel (by decide) hj))))))
            · have hcc28 := (fun w => z24 (Int32.not_lt.mp w))
              refine jd_aload_n dX4_trade_71 rfl ?_
              refine jd_iconst (v := 3) dX4_trade_72 (by decide) ?_
              refine jd_callV (As := [.int (3)]) (rest := []) (ct_X4_refuse hw1 (3)) (jd_rv (w_mthis hw1) 9 rfl rfl) rfl q1521 q1523 qs50 q90 q1524 nX4_refuse dX4_trade_73 rfl rfl rfl (Nat.le_of_ble_eq_true rfl) ⟨(Nat.le_of_ble_eq_true rfl), (Nat.le_of_ble_eq_true rfl), by omega, by omega⟩ (fun rv28 hn28 hq28 => ?_) jd_nox
              obtain ⟨rfl, hw28_, hf28_⟩ := hq28
              exact jd_iret dX4_trade_76 rfl (jd_mo.no (γ' := γ) (μ' := (mu_s (mu_s μ 0 0 0) 0 0 3)) (k := 3) (by unfold c_trade; (try simp only [hT_f, hT_t]); rw [if_pos hcc6, if_pos hcc9, if_pos ⟨hcc14, hcc17⟩, if_neg (fun w => hcc28 w.2)]) (by decide) rfl hw28_ rfl (fun j hj => ((hf28_ j hj).trans (ho1 j (ll_nel (by decide) hj)))))
        · have hcc30 := (fun w => z16 (Int32.not_lt.mp w))
          refine jd_aload_n dX4_trade_36 rfl ?_
          refine jd_iconst (v := 2) dX4_trade_37 (by decide) ?_
          refine jd_callV (As := [.int (2)]) (rest := []) (ct_X4_refuse hw1 (2)) (jd_rv (w_mthis hw1) 9 rfl rfl) rfl q1521 q1523 qs50 q90 q1524 nX4_refuse dX4_trade_38 rfl rfl rfl (Nat.le_of_ble_eq_true rfl) ⟨(Nat.le_of_ble_eq_true rfl), (Nat.le_of_ble_eq_true rfl), by omega, by omega⟩ (fun rv30 hn30 hq30 => ?_) jd_nox
          obtain ⟨rfl, hw30_, hf30_⟩ := hq30
          exact jd_iret dX4_trade_41 rfl (jd_mo.no (γ' := γ) (μ' := (mu_s (mu_s μ 0 0 0) 0 0 2)) (k := 2) (by unfold c_trade; (try simp only [hT_f, hT_t]); rw [if_pos hcc6, if_pos hcc9, if_neg (fun w => hcc30 w.2)]) (by decide) rfl hw30_ rfl (fun j hj => ((hf30_ j hj).trans (ho1 j (ll_nel (by decide) hj)))))
    · have hcc32 := z8
      refine jd_aload_n dX4_trade_21 rfl ?_
      refine jd_iconst (v := 1) dX4_trade_22 (by decide) ?_
      refine jd_callV (As := [.int (1)]) (rest := []) (ct_X4_refuse hw1 (1)) (jd_rv (w_mthis hw1) 9 rfl rfl) rfl q1521 q1523 qs50 q90 q1524 nX4_refuse dX4_trade_23 rfl rfl rfl (Nat.le_of_ble_eq_true rfl) ⟨(Nat.le_of_ble_eq_true rfl), (Nat.le_of_ble_eq_true rfl), by omega, by omega⟩ (fun rv32 hn32 hq32 => ?_) jd_nox
      obtain ⟨rfl, hw32_, hf32_⟩ := hq32
      exact jd_iret dX4_trade_26 rfl (jd_mo.no (γ' := γ) (μ' := (mu_s (mu_s μ 0 0 0) 0 0 1)) (k := 1) (by unfold c_trade; (try simp only [hT_f]); rw [if_pos hcc6, if_neg hcc32]) (by decide) rfl hw32_ rfl (fun j hj => ((hf32_ j hj).trans (ho1 j (ll_nel (by decide) hj)))))

set_option maxRecDepth 20000 in
set_option maxHeartbeats 2000000 in
theorem ct_X4_give {G : jd_G} {γ : ll_B} {κ : ll_K} {μ : ll_U} {h : jd_H} (hw : WM G γ κ μ h) (hI : ll_I κ) (p : Int32) (t : Int32) : jd_Ct G mX4_give 3 (0) (0) [.ref (γ 0 0), .int (p), .int (t)] h (jd_mo G γ κ h (c_give κ p t) (.int (nI ((pHead κ (tN p)).getD 0))) (ll_so κ 1 (tN p) (some (tN t)))) jd_no := by
  obtain ⟨⟨hG8, hS12, hP24, hH40, hN99, hH24⟩, hIg, hIs, hIp, hIh, hIl, hIq⟩ := id hI
  obtain ⟨mcG, hlG⟩ := w_mgates hw
  obtain ⟨mcS, hlS⟩ := w_msleepers hw
  obtain ⟨mcP, hlP⟩ := w_mparts hw
  obtain ⟨mcH, hlH⟩ := w_mhidings hw
  refine jd_ct (ls := [some (.ref (γ 0 0)), some (.int (p)), some (.int (t)), none, none, none]) rfl rfl (by decide) (Nat.le_of_ble_eq_true rfl) rfl ?_
  refine jd_aload_n dX4_give_0 rfl ?_
  refine jd_iconst (v := 0) dX4_give_1 (by decide) ?_
  refine jd_put (fs' := [_, _, _, _, _, _, _, _, _, _, _, _, _]) in_X4 tyX4_ok nmX4 (w_mthis hw) 0 q1466 dX4_give_2 rfl (Nat.le_of_ble_eq_true rfl) rfl rfl rfl (Nat.le_of_ble_eq_true rfl) rfl ?_
  refine jd_updG (fun h1 hs1 ho1 => ?_)
  have hw1 := m_thrown hw (v := 0) hs1 ho1
  refine jd_aload_n dX4_give_5 rfl ?_
  refine jd_iload_n dX4_give_6 rfl ?_
  refine jd_pV (As := [.int (p)]) (rest := []) (ct_X4_isPart hw1 hI (p)) (jd_rv (w_mthis hw1) 9 rfl rfl) rfl q1669 q1671 qs53 q90 q1672 nX4_isPart dX4_give_7 rfl rfl rfl (Nat.le_of_ble_eq_true rfl) ⟨(Nat.le_of_ble_eq_true rfl), (Nat.le_of_ble_eq_true rfl)⟩ ?_
  refine jd_bif_eq (tgt := 21) dX4_give_10 (by decide) (fun z2 => ?_) (fun z3 => ?_)
  · have hcc4 := z2
    refine jd_aload_n dX4_give_21 rfl ?_
    refine jd_iconst (v := 1) dX4_give_22 (by decide) ?_
    refine jd_callV (As := [.int (1)]) (rest := []) (ct_X4_refuse hw1 (1)) (jd_rv (w_mthis hw1) 9 rfl rfl) rfl q1521 q1523 qs50 q90 q1524 nX4_refuse dX4_give_23 rfl rfl rfl (Nat.le_of_ble_eq_true rfl) ⟨(Nat.le_of_ble_eq_true rfl), (Nat.le_of_ble_eq_true rfl), by omega, by omega⟩ (fun rv4 hn4 hq4 => ?_) jd_nox
    obtain ⟨rfl, hw4_, hf4_⟩ := hq4
    exact jd_iret dX4_give_26 rfl (jd_mo.no (γ' := γ) (μ' := (mu_s (mu_s μ 0 0 0) 0 0 1)) (k := 1) (by unfold c_give; rw [if_neg hcc4]) (by decide) rfl hw4_ rfl (fun j hj => ((hf4_ j hj).trans (ho1 j (ll_nel (by decide) hj)))))
  · have hcc6 := z3
    obtain ⟨k_p, hk_p, rfl⟩ := inN_ex (n := (nP κ)) (by omega) hcc6
    have hT_p := tN_nI (show k_p < 2 ^ 31 by omega)
    refine jd_aload_n dX4_give_13 rfl ?_
    refine jd_iload_n dX4_give_14 rfl ?_
    refine jd_pV (As := [.int (t)]) (rest := []) (ct_X4_isSleeper hw1 hI (t)) (jd_rv (w_mthis hw1) 9 rfl rfl) rfl q1634 q1636 qs52 q90 q1637 nX4_isSleeper dX4_give_15 rfl rfl rfl (Nat.le_of_ble_eq_true rfl) ⟨(Nat.le_of_ble_eq_true rfl), (Nat.le_of_ble_eq_true rfl)⟩ ?_
    refine jd_bif_ne (tgt := 27) dX4_give_18 (by decide) (fun z7 => ?_) (fun z8 => ?_)
    · have hcc9 := z7
      obtain ⟨k_t, hk_t, rfl⟩ := inN_ex (n := (nS κ)) (by omega) hcc9
      have hT_t := tN_nI (show k_t < 2 ^ 31 by omega)
      refine jd_aload_n dX4_give_27 rfl ?_
      refine jd_get in_X4 (w_mthis hw1) 9 q1475 dX4_give_28 rfl (Nat.le_of_ble_eq_true rfl) rfl ?_
      refine jd_iload_n dX4_give_31 rfl ?_
      obtain ⟨mcl10, hl10_⟩ := w_mparts hw1
      refine jd_pV (As := [.int (nI k_p)]) (rest := []) (ct_J2_get hl10_ (show nP κ ≤ 900 by omega) (k := k_p) (show k_p < nP κ by omega)) (jd_rv hl10_ 15 rfl rfl) rfl q1584 q325 q2001 q83 q327 nJ2_get dX4_give_32 rfl rfl rfl (Nat.le_of_ble_eq_true rfl) ⟨(Nat.le_of_ble_eq_true rfl), (Nat.le_of_ble_eq_true rfl)⟩ ?_
      refine jd_castS (jd_rv ((w_mpart hw1) k_p (show k_p < nP κ by omega)) 13 rfl rfl) (ci := 13) rfl q1638 dX4_give_35 ?_
      refine jd_getN in_X12 ((w_mpart hw1) k_p (show k_p < nP κ by omega)) 4 q1649 dX4_give_38 rfl (Nat.le_of_ble_eq_true rfl) rfl ?_
      have hat := at_bd hI hk_p
      refine jd_istore_n (ls' := [_, _, _, _, _, _]) dX4_give_41 (Nat.le_of_ble_eq_true rfl) rfl rfl ?_
      refine jd_iload_n dX4_give_42 rfl ?_
      refine jd_bipush (v := 100) dX4_give_43 (by decide) ?_
      refine jd_ncmp_ge (a := (pAt κ k_p)) (b := 100) (tgt := 53) dX4_give_45 (by decide) (by omega) (by omega) (fun z11 => ?_) (fun z12 => ?_)
      · have hcc13 := (not_not_intro (at_nn hI hk_p z11))
        refine jd_aload_n dX4_give_53 rfl ?_
        refine jd_iconst (v := 2) dX4_give_54 (by decide) ?_
        refine jd_callV (As := [.int (2)]) (rest := []) (ct_X4_refuse hw1 (2)) (jd_rv (w_mthis hw1) 9 rfl rfl) rfl q1521 q1523 qs50 q90 q1524 nX4_refuse dX4_give_55 rfl rfl rfl (Nat.le_of_ble_eq_true rfl) ⟨(Nat.le_of_ble_eq_true rfl), (Nat.le_of_ble_eq_true rfl), by omega, by omega⟩ (fun rv13 hn13 hq13 => ?_) jd_nox
        obtain ⟨rfl, hw13_, hf13_⟩ := hq13
        exact jd_iret dX4_give_58 rfl (jd_mo.no (γ' := γ) (μ' := (mu_s (mu_s μ 0 0 0) 0 0 2)) (k := 2) (by unfold c_give; (try simp only [hT_p, hT_t]); rw [if_pos hcc6, if_pos hcc9, if_neg (fun w => hcc13 w.1)]) (by decide) rfl hw13_ rfl (fun j hj => ((hf13_ j hj).trans (ho1 j (ll_nel (by decide) hj)))))
      · have hge := (Nat.not_le.mpr z12)
        have hcc15 := (at_ne hI hk_p (Nat.not_le.mp (Nat.not_le.mpr z12)))
        refine jd_iload_n dX4_give_48 rfl ?_
        refine jd_iload_n dX4_give_49 rfl ?_
        refine jd_ncmp_ne (a := (pAt κ k_p)) (b := k_t) (tgt := 59) dX4_give_50 (by decide) (by omega) (by omega) (fun z16 => ?_) (fun z17 => ?_)
        · have hcc18 := (fun w => z16 ((at_head hI hk_p (by omega)).mpr w))
          have hlt100 := Nat.not_le.mp hge
          have hkb : pHead κ k_p = some (pAt κ k_p) := (at_head hI hk_p hlt100).mp rfl
          have hgB : (pHead κ k_p).getD 0 = pAt κ k_p := by rw [hkb]; rfl
          have hat3 := ((landM hI hk_p).2.2 hlt100).2
          have hsb := hIs (pAt κ k_p) hat3
          have hst := hIs k_t hk_t
          have hsb1 := hsb.1
          have hst1 := hst.1
          have hsb2 := hsb.2.1
          have hst2 := hst.2.1
          refine jd_aload_n dX4_give_59 rfl ?_
          refine jd_get in_X4 (w_mthis hw1) 8 q1474 dX4_give_60 rfl (Nat.le_of_ble_eq_true rfl) rfl ?_
          refine jd_iload_n dX4_give_63 rfl ?_
          obtain ⟨mcl19, hl19_⟩ := w_msleepers hw1
          refine jd_pV (As := [.int (nI ((pAt κ k_p)))]) (rest := []) (ct_J2_get hl19_ (show nS κ ≤ 900 by omega) (k := (pAt κ k_p)) (show (pAt κ k_p) < nS κ by omega)) (jd_rv hl19_ 15 rfl rfl) rfl q1584 q325 q2001 q83 q327 nJ2_get dX4_give_64 rfl rfl rfl (Nat.le_of_ble_eq_true rfl) ⟨(Nat.le_of_ble_eq_true rfl), (Nat.le_of_ble_eq_true rfl)⟩ ?_
          refine jd_castS (jd_rv ((w_msleeper hw1) (pAt κ k_p) (show pAt κ k_p < nS κ by omega)) 12 rfl rfl) (ci := 12) rfl q1593 dX4_give_67 ?_
          refine jd_astore (ls' := [_, _, _, _, _, _]) dX4_give_70 (Nat.le_of_ble_eq_true rfl) rfl rfl ?_
          refine jd_aload_n dX4_give_72 rfl ?_
          refine jd_get in_X4 (w_mthis hw1) 8 q1474 dX4_give_73 rfl (Nat.le_of_ble_eq_true rfl) rfl ?_
          refine jd_iload_n dX4_give_76 rfl ?_
          refine jd_pV (As := [.int (nI k_t)]) (rest := []) (ct_J2_get hl19_ (show nS κ ≤ 900 by omega) (k := k_t) (show k_t < nS κ by omega)) (jd_rv hl19_ 15 rfl rfl) rfl q1584 q325 q2001 q83 q327 nJ2_get dX4_give_77 rfl rfl rfl (Nat.le_of_ble_eq_true rfl) ⟨(Nat.le_of_ble_eq_true rfl), (Nat.le_of_ble_eq_true rfl)⟩ ?_
          refine jd_castS (jd_rv ((w_msleeper hw1) k_t (show k_t < nS κ by omega)) 12 rfl rfl) (ci := 12) rfl q1593 dX4_give_80 ?_
          refine jd_astore (ls' := [_, _, _, _, _, _]) dX4_give_83 (Nat.le_of_ble_eq_true rfl) rfl rfl ?_
          refine jd_aload dX4_give_85 rfl ?_
          refine jd_getN in_X10 ((w_msleeper hw1) (pAt κ k_p) (show pAt κ k_p < nS κ by omega)) 0 q1599 dX4_give_87 rfl (Nat.le_of_ble_eq_true rfl) rfl ?_
          refine jd_aload dX4_give_90 rfl ?_
          refine jd_getN in_X10 ((w_msleeper hw1) k_t (show k_t < nS κ by omega)) 0 q1599 dX4_give_92 rfl (Nat.le_of_ble_eq_true rfl) rfl ?_
          refine jd_ncmp_ne (a := (sLand κ (pAt κ k_p))) (b := (sLand κ k_t)) (tgt := 114) dX4_give_95 (by decide) (by omega) (by omega) (fun z20 => ?_) (fun z21 => ?_)
          · have hcc22 := z20
            refine jd_aload_n dX4_give_114 rfl ?_
            refine jd_iconst (v := 2) dX4_give_115 (by decide) ?_
            refine jd_callV (As := [.int (2)]) (rest := []) (ct_X4_refuse hw1 (2)) (jd_rv (w_mthis hw1) 9 rfl rfl) rfl q1521 q1523 qs50 q90 q1524 nX4_refuse dX4_give_116 rfl rfl rfl (Nat.le_of_ble_eq_true rfl) ⟨(Nat.le_of_ble_eq_true rfl), (Nat.le_of_ble_eq_true rfl), by omega, by omega⟩ (fun rv22 hn22 hq22 => ?_) jd_nox
            obtain ⟨rfl, hw22_, hf22_⟩ := hq22
            exact jd_iret dX4_give_119 rfl (jd_mo.no (γ' := γ) (μ' := (mu_s (mu_s μ 0 0 0) 0 0 2)) (k := 2) (by unfold c_give; (try simp only [hT_p, hT_t, hgB]); rw [if_pos hcc6, if_pos hcc9, if_pos ⟨hcc15, hcc18⟩, if_neg (fun w => hcc22 w.2.2)]) (by decide) rfl hw22_ rfl (fun j hj => ((hf22_ j hj).trans (ho1 j (ll_nel (by decide) hj)))))
          · have hcc24 := z21
            refine jd_aload dX4_give_98 rfl ?_
            refine jd_getN in_X10 ((w_msleeper hw1) (pAt κ k_p) (show pAt κ k_p < nS κ by omega)) 3 q1602 dX4_give_100 rfl (Nat.le_of_ble_eq_true rfl) rfl ?_
            refine jd_nif_ne (a := (sRest κ (pAt κ k_p))) (tgt := 114) dX4_give_103 (by decide) (by omega) (fun z25 => ?_) (fun z26 => ?_)
            · have hcc27 := z25
              refine jd_aload_n dX4_give_114 rfl ?_
              refine jd_iconst (v := 2) dX4_give_115 (by decide) ?_
              refine jd_callV (As := [.int (2)]) (rest := []) (ct_X4_refuse hw1 (2)) (jd_rv (w_mthis hw1) 9 rfl rfl) rfl q1521 q1523 qs50 q90 q1524 nX4_refuse dX4_give_116 rfl rfl rfl (Nat.le_of_ble_eq_true rfl) ⟨(Nat.le_of_ble_eq_true rfl), (Nat.le_of_ble_eq_true rfl), by omega, by omega⟩ (fun rv27 hn27 hq27 => ?_) jd_nox
              obtain ⟨rfl, hw27_, hf27_⟩ := hq27
              exact jd_iret dX4_give_119 rfl (jd_mo.no (γ' := γ) (μ' := (mu_s (mu_s μ 0 0 0) 0 0 2)) (k := 2) (by unfold c_give; (try simp only [hT_p, hT_t, hgB]); rw [if_pos hcc6, if_pos hcc9, if_pos ⟨hcc15, hcc18⟩, if_neg (fun w => hcc27 w.1)]) (by decide) rfl hw27_ rfl (fun j hj => ((hf27_ j hj).trans (ho1 j (ll_nel (by decide) hj)))))
            · have hcc29 := z26
              refine jd_aload dX4_give_106 rfl ?_
              refine jd_getN in_X10 ((w_msleeper hw1) k_t (show k_t < nS κ by omega)) 3 q1602 dX4_give_108 rfl (Nat.le_of_ble_eq_true rfl) rfl ?_
              refine jd_nif_eq (a := (sRest κ k_t)) (tgt := 120) dX4_give_111 (by decide) (by omega) (fun z30 => ?_) (fun z31 => ?_)
              · have hcc32 := z30
                refine jd_aload_n dX4_give_120 rfl ?_
                refine jd_get in_X4 (w_mthis hw1) 9 q1475 dX4_give_121 rfl (Nat.le_of_ble_eq_true rfl) rfl ?_
                refine jd_iload_n dX4_give_124 rfl ?_
                refine jd_pV (As := [.int (nI k_p)]) (rest := []) (ct_J2_get hl10_ (show nP κ ≤ 900 by omega) (k := k_p) (show k_p < nP κ by omega)) (jd_rv hl10_ 15 rfl rfl) rfl q1584 q325 q2001 q83 q327 nJ2_get dX4_give_125 rfl rfl rfl (Nat.le_of_ble_eq_true rfl) ⟨(Nat.le_of_ble_eq_true rfl), (Nat.le_of_ble_eq_true rfl)⟩ ?_
                refine jd_castS (jd_rv ((w_mpart hw1) k_p (show k_p < nP κ by omega)) 13 rfl rfl) (ci := 13) rfl q1638 dX4_give_128 ?_
                refine jd_iload_n dX4_give_131 rfl ?_
                refine jd_putN (fs' := [_, _, _, _, _, _]) in_X12 tyX12_ok nmX12 ((w_mpart hw1) k_p (show k_p < nP κ by omega)) 4 q1649 dX4_give_132 rfl (Nat.le_of_ble_eq_true rfl) rfl rfl rfl (Nat.le_of_ble_eq_true rfl) rfl ?_
                refine jd_updG (fun h33 hs33 ho33 => ?_)
                have hw33 := m_atH hw1 (k := k_p) (show k_p < nP κ by omega) (v := k_t) hs33 ho33
                refine jd_iload_n dX4_give_135 rfl ?_
                exact jd_iret dX4_give_136 rfl (jd_mo.ok (γ' := γ) (μ' := (mu_s μ 0 0 0)) (by unfold c_give; (try simp only [hT_p, hT_t, hgB]); rw [if_pos hcc6, if_pos hcc9, if_pos ⟨hcc15, hcc18⟩, if_pos ⟨hcc29, hcc32, hcc24⟩]) (by first | (simp only [hT_p, hT_t, hgB]; done) | (simp only [hT_p, hT_t, hgB]; rfl) | rfl) rfl (by first | (simp only [hT_p, hT_t, hgB]; exact hw33) | exact hw33) rfl (fun j hj => ((ho33 j (ll_nel (by decide) hj)).trans (ho1 j (ll_nel (by decide) hj)))))
              · have hcc34 := z31
                refine jd_aload_n dX4_give_114 rfl ?_
                refine jd_iconst (v := 2) dX4_give_115 (by decide) ?_
                refine jd_callV (As := [.int (2)]) (rest := []) (ct_X4_refuse hw1 (2)) (jd_rv (w_mthis hw1) 9 rfl rfl) rfl q1521 q1523 qs50 q90 q1524 nX4_refuse dX4_give_116 rfl rfl rfl (Nat.le_of_ble_eq_true rfl) ⟨(Nat.le_of_ble_eq_true rfl), (Nat.le_of_ble_eq_true rfl), by omega, by omega⟩ (fun rv34 hn34 hq34 => ?_) jd_nox
                obtain ⟨rfl, hw34_, hf34_⟩ := hq34
                exact jd_iret dX4_give_119 rfl (jd_mo.no (γ' := γ) (μ' := (mu_s (mu_s μ 0 0 0) 0 0 2)) (k := 2) (by unfold c_give; (try simp only [hT_p, hT_t, hgB]); rw [if_pos hcc6, if_pos hcc9, if_pos ⟨hcc15, hcc18⟩, if_neg (fun w => hcc34 w.2.1)]) (by decide) rfl hw34_ rfl (fun j hj => ((hf34_ j hj).trans (ho1 j (ll_nel (by decide) hj)))))
        · have hcc36 := (not_not_intro ((at_head hI hk_p (by omega)).mp z17))
          refine jd_aload_n dX4_give_53 rfl ?_
          refine jd_iconst (v := 2) dX4_give_54 (by decide) ?_
          refine jd_callV (As := [.int (2)]) (rest := []) (ct_X4_refuse hw1 (2)) (jd_rv (w_mthis hw1) 9 rfl rfl) rfl q1521 q1523 qs50 q90 q1524 nX4_refuse dX4_give_55 rfl rfl rfl (Nat.le_of_ble_eq_true rfl) ⟨(Nat.le_of_ble_eq_true rfl), (Nat.le_of_ble_eq_true rfl), by omega, by omega⟩ (fun rv36 hn36 hq36 => ?_) jd_nox
          obtain ⟨rfl, hw36_, hf36_⟩ := hq36
          exact jd_iret dX4_give_58 rfl (jd_mo.no (γ' := γ) (μ' := (mu_s (mu_s μ 0 0 0) 0 0 2)) (k := 2) (by unfold c_give; (try simp only [hT_p, hT_t]); rw [if_pos hcc6, if_pos hcc9, if_neg (fun w => hcc36 w.2)]) (by decide) rfl hw36_ rfl (fun j hj => ((hf36_ j hj).trans (ho1 j (ll_nel (by decide) hj)))))
    · have hcc38 := z8
      refine jd_aload_n dX4_give_21 rfl ?_
      refine jd_iconst (v := 1) dX4_give_22 (by decide) ?_
      refine jd_callV (As := [.int (1)]) (rest := []) (ct_X4_refuse hw1 (1)) (jd_rv (w_mthis hw1) 9 rfl rfl) rfl q1521 q1523 qs50 q90 q1524 nX4_refuse dX4_give_23 rfl rfl rfl (Nat.le_of_ble_eq_true rfl) ⟨(Nat.le_of_ble_eq_true rfl), (Nat.le_of_ble_eq_true rfl), by omega, by omega⟩ (fun rv38 hn38 hq38 => ?_) jd_nox
      obtain ⟨rfl, hw38_, hf38_⟩ := hq38
      exact jd_iret dX4_give_26 rfl (jd_mo.no (γ' := γ) (μ' := (mu_s (mu_s μ 0 0 0) 0 0 1)) (k := 1) (by unfold c_give; (try simp only [hT_p]); rw [if_pos hcc6, if_neg hcc38]) (by decide) rfl hw38_ rfl (fun j hj => ((hf38_ j hj).trans (ho1 j (ll_nel (by decide) hj)))))

set_option maxRecDepth 20000 in
set_option maxHeartbeats 2000000 in
theorem ct_X4_sing {G : jd_G} {γ : ll_B} {κ : ll_K} {μ : ll_U} {h : jd_H} (hw : WM G γ κ μ h) (hI : ll_I κ) (s : Int32) (g : Int32) (n : Int32) (v : Int32) : jd_Ct G mX4_sing 3 (0) (0) [.ref (γ 0 0), .int (s), .int (g), .int (n), .int (v)] h (jd_mo G γ κ h (c_sing κ s g n v) (.int (jd_rem (((13 * nI (tN s)) + (29 * g)) + (7 * n)) 97)) (ll_sp κ (tN s) (some (tN g, tN n, tN v)))) jd_no := by
  obtain ⟨⟨hG8, hS12, hP24, hH40, hN99, hH24⟩, hIg, hIs, hIp, hIh, hIl, hIq⟩ := id hI
  obtain ⟨mcG, hlG⟩ := w_mgates hw
  obtain ⟨mcS, hlS⟩ := w_msleepers hw
  obtain ⟨mcP, hlP⟩ := w_mparts hw
  obtain ⟨mcH, hlH⟩ := w_mhidings hw
  refine jd_ct (ls := [some (.ref (γ 0 0)), some (.int (s)), some (.int (g)), some (.int (n)), some (.int (v)), none]) rfl rfl (by decide) (Nat.le_of_ble_eq_true rfl) rfl ?_
  refine jd_aload_n dX4_sing_0 rfl ?_
  refine jd_iconst (v := 0) dX4_sing_1 (by decide) ?_
  refine jd_put (fs' := [_, _, _, _, _, _, _, _, _, _, _, _, _]) in_X4 tyX4_ok nmX4 (w_mthis hw) 0 q1466 dX4_sing_2 rfl (Nat.le_of_ble_eq_true rfl) rfl rfl rfl (Nat.le_of_ble_eq_true rfl) rfl ?_
  refine jd_updG (fun h1 hs1 ho1 => ?_)
  have hw1 := m_thrown hw (v := 0) hs1 ho1
  refine jd_aload_n dX4_sing_5 rfl ?_
  refine jd_iload_n dX4_sing_6 rfl ?_
  refine jd_pV (As := [.int (s)]) (rest := []) (ct_X4_isSleeper hw1 hI (s)) (jd_rv (w_mthis hw1) 9 rfl rfl) rfl q1634 q1636 qs52 q90 q1637 nX4_isSleeper dX4_sing_7 rfl rfl rfl (Nat.le_of_ble_eq_true rfl) ⟨(Nat.le_of_ble_eq_true rfl), (Nat.le_of_ble_eq_true rfl)⟩ ?_
  refine jd_bif_eq (tgt := 21) dX4_sing_10 (by decide) (fun z2 => ?_) (fun z3 => ?_)
  · have hcc4 := z2
    refine jd_aload_n dX4_sing_21 rfl ?_
    refine jd_iconst (v := 1) dX4_sing_22 (by decide) ?_
    refine jd_callV (As := [.int (1)]) (rest := []) (ct_X4_refuse hw1 (1)) (jd_rv (w_mthis hw1) 9 rfl rfl) rfl q1521 q1523 qs50 q90 q1524 nX4_refuse dX4_sing_23 rfl rfl rfl (Nat.le_of_ble_eq_true rfl) ⟨(Nat.le_of_ble_eq_true rfl), (Nat.le_of_ble_eq_true rfl), by omega, by omega⟩ (fun rv4 hn4 hq4 => ?_) jd_nox
    obtain ⟨rfl, hw4_, hf4_⟩ := hq4
    exact jd_iret dX4_sing_26 rfl (jd_mo.no (γ' := γ) (μ' := (mu_s (mu_s μ 0 0 0) 0 0 1)) (k := 1) (by unfold c_sing; rw [if_neg hcc4]) (by decide) rfl hw4_ rfl (fun j hj => ((hf4_ j hj).trans (ho1 j (ll_nel (by decide) hj)))))
  · have hcc6 := z3
    obtain ⟨k_s, hk_s, rfl⟩ := inN_ex (n := (nS κ)) (by omega) hcc6
    have hT_s := tN_nI (show k_s < 2 ^ 31 by omega)
    refine jd_aload_n dX4_sing_13 rfl ?_
    refine jd_iload_n dX4_sing_14 rfl ?_
    refine jd_pV (As := [.int (g)]) (rest := []) (ct_X4_isGate hw1 hI (g)) (jd_rv (w_mthis hw1) 9 rfl rfl) rfl q1580 q1582 qs51 q90 q1583 nX4_isGate dX4_sing_15 rfl rfl rfl (Nat.le_of_ble_eq_true rfl) ⟨(Nat.le_of_ble_eq_true rfl), (Nat.le_of_ble_eq_true rfl)⟩ ?_
    refine jd_bif_ne (tgt := 27) dX4_sing_18 (by decide) (fun z7 => ?_) (fun z8 => ?_)
    · have hcc9 := z7
      obtain ⟨k_g, hk_g, rfl⟩ := inN_ex (n := (nG κ)) (by omega) hcc9
      have hT_g := tN_nI (show k_g < 2 ^ 31 by omega)
      refine jd_iload_n dX4_sing_27 rfl ?_
      refine jd_aload_n dX4_sing_28 rfl ?_
      refine jd_get in_X4 (w_mthis hw1) 1 q1467 dX4_sing_29 rfl (Nat.le_of_ble_eq_true rfl) rfl ?_
      refine jd_bipush (v := 99) dX4_sing_32 (by decide) ?_
      refine jd_pS (As := [.int (n), .int (nI ((nNight κ))), .int (99)]) (rest := []) (ct_X4_is (n) (nI ((nNight κ))) (99)) rfl q1518 q1519 q90 q1520 nX4_is dX4_sing_34 rfl rfl (Nat.le_of_ble_eq_true rfl) ⟨(Nat.le_of_ble_eq_true rfl), (Nat.le_of_ble_eq_true rfl)⟩ ?_
      refine jd_bif_eq (tgt := 51) dX4_sing_37 (by decide) (fun z10 => ?_) (fun z11 => ?_)
      · have hcc12 := z10
        refine jd_aload_n dX4_sing_51 rfl ?_
        refine jd_iconst (v := 2) dX4_sing_52 (by decide) ?_
        refine jd_callV (As := [.int (2)]) (rest := []) (ct_X4_refuse hw1 (2)) (jd_rv (w_mthis hw1) 9 rfl rfl) rfl q1521 q1523 qs50 q90 q1524 nX4_refuse dX4_sing_53 rfl rfl rfl (Nat.le_of_ble_eq_true rfl) ⟨(Nat.le_of_ble_eq_true rfl), (Nat.le_of_ble_eq_true rfl), by omega, by omega⟩ (fun rv12 hn12 hq12 => ?_) jd_nox
        obtain ⟨rfl, hw12_, hf12_⟩ := hq12
        exact jd_iret dX4_sing_56 rfl (jd_mo.no (γ' := γ) (μ' := (mu_s (mu_s μ 0 0 0) 0 0 2)) (k := 2) (by unfold c_sing; (try simp only [hT_s, hT_g]); rw [if_pos hcc6, if_pos hcc9, if_neg hcc12]) (by decide) rfl hw12_ rfl (fun j hj => ((hf12_ j hj).trans (ho1 j (ll_nel (by decide) hj)))))
      · have hcc14 := z11
        obtain ⟨k_n, hk_n, rfl⟩ := inR_ex (lo := (nNight κ)) (hi := 99) hcc14 (by omega) (by omega)
        have hT_n := tN_nI (show k_n < 2 ^ 31 by omega)
        refine jd_iload dX4_sing_40 rfl ?_
        refine jd_iconst (v := 0) dX4_sing_42 (by decide) ?_
        refine jd_bipush (v := 96) dX4_sing_43 (by decide) ?_
        refine jd_pS (As := [.int (v), .int (0), .int (96)]) (rest := []) (ct_X4_is (v) (0) (96)) rfl q1518 q1519 q90 q1520 nX4_is dX4_sing_45 rfl rfl (Nat.le_of_ble_eq_true rfl) ⟨(Nat.le_of_ble_eq_true rfl), (Nat.le_of_ble_eq_true rfl)⟩ ?_
        refine jd_bif_ne (tgt := 57) dX4_sing_48 (by decide) (fun z15 => ?_) (fun z16 => ?_)
        · have hcc17 := z15
          obtain ⟨k_v, hk_v, rfl⟩ := inR_ex (lo := 0) (hi := 96) hcc17 (by omega) (by omega)
          have hT_v := tN_nI (show k_v < 2 ^ 31 by omega)
          refine jd_aload_n dX4_sing_57 rfl ?_
          refine jd_get in_X4 (w_mthis hw1) 8 q1474 dX4_sing_58 rfl (Nat.le_of_ble_eq_true rfl) rfl ?_
          refine jd_iload_n dX4_sing_61 rfl ?_
          obtain ⟨mcl18, hl18_⟩ := w_msleepers hw1
          refine jd_pV (As := [.int (nI k_s)]) (rest := []) (ct_J2_get hl18_ (show nS κ ≤ 900 by omega) (k := k_s) (show k_s < nS κ by omega)) (jd_rv hl18_ 15 rfl rfl) rfl q1584 q325 q2001 q83 q327 nJ2_get dX4_sing_62 rfl rfl rfl (Nat.le_of_ble_eq_true rfl) ⟨(Nat.le_of_ble_eq_true rfl), (Nat.le_of_ble_eq_true rfl)⟩ ?_
          refine jd_castS (jd_rv ((w_msleeper hw1) k_s (show k_s < nS κ by omega)) 12 rfl rfl) (ci := 12) rfl q1593 dX4_sing_65 ?_
          refine jd_astore (ls' := [_, _, _, _, _, _]) dX4_sing_68 (Nat.le_of_ble_eq_true rfl) rfl rfl ?_
          refine jd_aload dX4_sing_70 rfl ?_
          refine jd_iload_n dX4_sing_72 rfl ?_
          refine jd_putN (fs' := [_, _, _, _, _, _, _, _, _]) in_X10 tyX10_ok nmX10 ((w_msleeper hw1) k_s (show k_s < nS κ by omega)) 6 q1607 dX4_sing_73 rfl (Nat.le_of_ble_eq_true rfl) rfl rfl rfl (Nat.le_of_ble_eq_true rfl) rfl ?_
          refine jd_updG (fun h19 hs19 ho19 => ?_)
          refine jd_aload dX4_sing_76 rfl ?_
          refine jd_iload_n dX4_sing_78 rfl ?_
          refine jd_putN (fs' := [_, _, _, _, _, _, _, _, _]) in_X10 tyX10_ok nmX10 hs19 7 q1608 dX4_sing_79 rfl (Nat.le_of_ble_eq_true rfl) rfl rfl rfl (Nat.le_of_ble_eq_true rfl) rfl ?_
          refine jd_updG (fun h20 hs20 ho20 => ?_)
          refine jd_aload dX4_sing_82 rfl ?_
          refine jd_iload dX4_sing_84 rfl ?_
          refine jd_putN (fs' := [_, _, _, _, _, _, _, _, _]) in_X10 tyX10_ok nmX10 hs20 8 q1610 dX4_sing_86 rfl (Nat.le_of_ble_eq_true rfl) rfl rfl rfl (Nat.le_of_ble_eq_true rfl) rfl ?_
          refine jd_updG (fun h21 hs21 ho21 => ?_)
          have hw21 := m_sing hw1 hk_s (q := (k_g, k_n, k_v)) hs21 (fun j hj => (ho21 j hj).trans ((ho20 j hj).trans (ho19 j hj)))
          refine jd_iload_n dX4_sing_89 rfl ?_
          refine jd_iload_n dX4_sing_90 rfl ?_
          refine jd_iload_n dX4_sing_91 rfl ?_
          refine jd_pS (As := [.int (nI k_s), .int (nI k_g), .int (nI k_n)]) (rest := []) (ct_X4_right (nI k_s) (nI k_g) (nI k_n)) rfl q1677 q1678 q90 q1679 nX4_right dX4_sing_92 rfl rfl (Nat.le_of_ble_eq_true rfl) ⟨(Nat.le_of_ble_eq_true rfl), (Nat.le_of_ble_eq_true rfl)⟩ ?_
          exact jd_iret dX4_sing_95 rfl (jd_mo.ok (γ' := γ) (μ' := (mu_s (mu_s (mu_s μ 0 0 0) 3 k_s (nI k_g)) 4 k_s (nI k_n))) (by unfold c_sing; (try simp only [hT_s, hT_g, hT_n, hT_v]); rw [if_pos hcc6, if_pos hcc9, if_pos hcc14, if_pos hcc17]) (by first | (simp only [hT_s, hT_g, hT_n, hT_v]; done) | (simp only [hT_s, hT_g, hT_n, hT_v]; rfl) | rfl) rfl (by first | (simp only [hT_s, hT_g, hT_n, hT_v]; exact hw21) | exact hw21) rfl (fun j hj => ((ho21 j (ll_nel (by decide) hj)).trans ((ho20 j (ll_nel (by decide) hj)).trans ((ho19 j (ll_nel (by decide) hj)).trans (ho1 j (ll_nel (by decide) hj)))))))
        · have hcc22 := z16
          refine jd_aload_n dX4_sing_51 rfl ?_
          refine jd_iconst (v := 2) dX4_sing_52 (by decide) ?_
          refine jd_callV (As := [.int (2)]) (rest := []) (ct_X4_refuse hw1 (2)) (jd_rv (w_mthis hw1) 9 rfl rfl) rfl q1521 q1523 qs50 q90 q1524 nX4_refuse dX4_sing_53 rfl rfl rfl (Nat.le_of_ble_eq_true rfl) ⟨(Nat.le_of_ble_eq_true rfl), (Nat.le_of_ble_eq_true rfl), by omega, by omega⟩ (fun rv22 hn22 hq22 => ?_) jd_nox
          obtain ⟨rfl, hw22_, hf22_⟩ := hq22
          exact jd_iret dX4_sing_56 rfl (jd_mo.no (γ' := γ) (μ' := (mu_s (mu_s μ 0 0 0) 0 0 2)) (k := 2) (by unfold c_sing; (try simp only [hT_s, hT_g, hT_n]); rw [if_pos hcc6, if_pos hcc9, if_pos hcc14, if_neg hcc22]) (by decide) rfl hw22_ rfl (fun j hj => ((hf22_ j hj).trans (ho1 j (ll_nel (by decide) hj)))))
    · have hcc24 := z8
      refine jd_aload_n dX4_sing_21 rfl ?_
      refine jd_iconst (v := 1) dX4_sing_22 (by decide) ?_
      refine jd_callV (As := [.int (1)]) (rest := []) (ct_X4_refuse hw1 (1)) (jd_rv (w_mthis hw1) 9 rfl rfl) rfl q1521 q1523 qs50 q90 q1524 nX4_refuse dX4_sing_23 rfl rfl rfl (Nat.le_of_ble_eq_true rfl) ⟨(Nat.le_of_ble_eq_true rfl), (Nat.le_of_ble_eq_true rfl), by omega, by omega⟩ (fun rv24 hn24 hq24 => ?_) jd_nox
      obtain ⟨rfl, hw24_, hf24_⟩ := hq24
      exact jd_iret dX4_sing_26 rfl (jd_mo.no (γ' := γ) (μ' := (mu_s (mu_s μ 0 0 0) 0 0 1)) (k := 1) (by unfold c_sing; (try simp only [hT_s]); rw [if_pos hcc6, if_neg hcc24]) (by decide) rfl hw24_ rfl (fun j hj => ((hf24_ j hj).trans (ho1 j (ll_nel (by decide) hj)))))
