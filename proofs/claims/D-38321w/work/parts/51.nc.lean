/-! the model: calls, second (printed by mk_c.py) -/
set_option maxRecDepth 20000 in
set_option maxHeartbeats 2000000 in
theorem ct_X4_isGood {G : jd_G} {γ : ll_B} {κ : ll_K} {μ : ll_U} {h : jd_H} (hw : WM G γ κ μ h) (hI : ll_I κ) (s : Int32) (g : Int32) : jd_Ct G mX4_isGood 4 (0) (0) [.ref (γ 0 0), .int (s), .int (g)] h (jd_mo G γ κ h (c_isGood κ s g) (.int (jd_b (goodNow κ (tN s) (tN g)))) (κ)) jd_no := by
  obtain ⟨⟨hG8, hS12, hP24, hH40, hN99, hH24⟩, hIg, hIs, hIp, hIh, hIl, hIq⟩ := id hI
  obtain ⟨mcG, hlG⟩ := w_mgates hw
  obtain ⟨mcS, hlS⟩ := w_msleepers hw
  obtain ⟨mcP, hlP⟩ := w_mparts hw
  obtain ⟨mcH, hlH⟩ := w_mhidings hw
  refine jd_ct (ls := [some (.ref (γ 0 0)), some (.int (s)), some (.int (g))]) rfl rfl (by decide) (Nat.le_of_ble_eq_true rfl) rfl ?_
  refine jd_aload_n dX4_isGood_0 rfl ?_
  refine jd_aload_n dX4_isGood_1 rfl ?_
  refine jd_iload_n dX4_isGood_2 rfl ?_
  refine jd_pV (As := [.int (s)]) (rest := [.ref (γ 0 0)]) (ct_X4_isSleeper hw hI (s)) (jd_rv (w_mthis hw) 9 rfl rfl) rfl q1634 q1636 qs52 q90 q1637 nX4_isSleeper dX4_isGood_3 rfl rfl rfl (Nat.le_of_ble_eq_true rfl) ⟨(Nat.le_of_ble_eq_true rfl), (Nat.le_of_ble_eq_true rfl)⟩ ?_
  refine jd_bif_eq (tgt := 21) dX4_isGood_6 (by decide) (fun z1 => ?_) (fun z2 => ?_)
  · have hcc3 := z1
    refine jd_iconst (v := 1) dX4_isGood_21 (by decide) ?_
    refine jd_put (fs' := [_, _, _, _, _, _, _, _, _, _, _, _, _]) in_X4 tyX4_ok nmX4 (w_mthis hw) 0 q1466 dX4_isGood_22 rfl (Nat.le_of_ble_eq_true rfl) rfl rfl rfl (Nat.le_of_ble_eq_true rfl) rfl ?_
    refine jd_updG (fun h4 hs4 ho4 => ?_)
    have hw4 := m_thrown hw (v := 1) hs4 ho4
    refine jd_aload_n dX4_isGood_25 rfl ?_
    refine jd_get in_X4 (w_mthis hw4) 0 q1466 dX4_isGood_26 rfl (Nat.le_of_ble_eq_true rfl) rfl ?_
    refine jd_top (w := .int 1) rfl ?_
    refine jd_nif_ne (a := 1) (tgt := 45) dX4_isGood_29 (by decide) (by omega) (fun z5 => ?_) (fun z6 => ?_)
    · refine jd_iconst (v := 0) dX4_isGood_45 (by decide) ?_
      exact jd_zret dX4_isGood_46 rfl (Or.inl rfl) (jd_mo.no (γ' := γ) (μ' := (mu_s μ 0 0 1)) (k := 1) (by unfold c_isGood; rw [if_neg hcc3]) (by decide) rfl hw4 rfl (fun j hj => (ho4 j (ll_nel (by decide) hj))))
    · omega
  · have hcc7 := z2
    obtain ⟨k_s, hk_s, rfl⟩ := inN_ex (n := (nS κ)) (by omega) hcc7
    have hT_s := tN_nI (show k_s < 2 ^ 31 by omega)
    refine jd_aload_n dX4_isGood_9 rfl ?_
    refine jd_iload_n dX4_isGood_10 rfl ?_
    refine jd_pV (As := [.int (g)]) (rest := [.ref (γ 0 0)]) (ct_X4_isGate hw hI (g)) (jd_rv (w_mthis hw) 9 rfl rfl) rfl q1580 q1582 qs51 q90 q1583 nX4_isGate dX4_isGood_11 rfl rfl rfl (Nat.le_of_ble_eq_true rfl) ⟨(Nat.le_of_ble_eq_true rfl), (Nat.le_of_ble_eq_true rfl)⟩ ?_
    refine jd_bif_eq (tgt := 21) dX4_isGood_14 (by decide) (fun z8 => ?_) (fun z9 => ?_)
    · have hcc10 := z8
      refine jd_iconst (v := 1) dX4_isGood_21 (by decide) ?_
      refine jd_put (fs' := [_, _, _, _, _, _, _, _, _, _, _, _, _]) in_X4 tyX4_ok nmX4 (w_mthis hw) 0 q1466 dX4_isGood_22 rfl (Nat.le_of_ble_eq_true rfl) rfl rfl rfl (Nat.le_of_ble_eq_true rfl) rfl ?_
      refine jd_updG (fun h11 hs11 ho11 => ?_)
      have hw11 := m_thrown hw (v := 1) hs11 ho11
      refine jd_aload_n dX4_isGood_25 rfl ?_
      refine jd_get in_X4 (w_mthis hw11) 0 q1466 dX4_isGood_26 rfl (Nat.le_of_ble_eq_true rfl) rfl ?_
      refine jd_top (w := .int 1) rfl ?_
      refine jd_nif_ne (a := 1) (tgt := 45) dX4_isGood_29 (by decide) (by omega) (fun z12 => ?_) (fun z13 => ?_)
      · refine jd_iconst (v := 0) dX4_isGood_45 (by decide) ?_
        exact jd_zret dX4_isGood_46 rfl (Or.inl rfl) (jd_mo.no (γ' := γ) (μ' := (mu_s μ 0 0 1)) (k := 1) (by unfold c_isGood; (try simp only [hT_s]); rw [if_pos hcc7, if_neg hcc10]) (by decide) rfl hw11 rfl (fun j hj => (ho11 j (ll_nel (by decide) hj))))
      · omega
    · have hcc14 := z9
      obtain ⟨k_g, hk_g, rfl⟩ := inN_ex (n := (nG κ)) (by omega) hcc14
      have hT_g := tN_nI (show k_g < 2 ^ 31 by omega)
      refine jd_iconst (v := 0) dX4_isGood_17 (by decide) ?_
      refine jd_goto (tgt := 22) dX4_isGood_18 (by decide) ?_
      refine jd_put (fs' := [_, _, _, _, _, _, _, _, _, _, _, _, _]) in_X4 tyX4_ok nmX4 (w_mthis hw) 0 q1466 dX4_isGood_22 rfl (Nat.le_of_ble_eq_true rfl) rfl rfl rfl (Nat.le_of_ble_eq_true rfl) rfl ?_
      refine jd_updG (fun h15 hs15 ho15 => ?_)
      have hw15 := m_thrown hw (v := 0) hs15 ho15
      refine jd_aload_n dX4_isGood_25 rfl ?_
      refine jd_get in_X4 (w_mthis hw15) 0 q1466 dX4_isGood_26 rfl (Nat.le_of_ble_eq_true rfl) rfl ?_
      refine jd_top (w := .int 0) rfl ?_
      refine jd_nif_ne (a := 0) (tgt := 45) dX4_isGood_29 (by decide) (by omega) (fun z16 => ?_) (fun z17 => ?_)
      · omega
      · refine jd_aload_n dX4_isGood_32 rfl ?_
        refine jd_iload_n dX4_isGood_33 rfl ?_
        refine jd_iload_n dX4_isGood_34 rfl ?_
        refine jd_pV (As := [.int (nI k_s), .int (nI k_g)]) (rest := []) (ct_X4_isGoodNow hw15 hI (k_s) (k_g) (by omega) (by omega)) (jd_rv (w_mthis hw15) 9 rfl rfl) rfl q1768 q1770 qs58 q90 q1771 nX4_isGoodNow dX4_isGood_35 rfl rfl rfl (Nat.le_of_ble_eq_true rfl) ⟨(Nat.le_of_ble_eq_true rfl), (Nat.le_of_ble_eq_true rfl)⟩ ?_
        refine jd_mg1 46 (.int (jd_b ((goodNow κ k_s k_g)))) (fun hj18 => ?_) ?_
        · refine jd_bif_eq (tgt := 45) dX4_isGood_38 (by decide) (fun z19 => ?_) (fun z20 => ?_)
          · refine jd_iconst (v := 0) dX4_isGood_45 (by decide) ?_
            exact jd_top (congrArg Value.int (jd_b0 z19).symm) hj18
          · refine jd_iconst (v := 1) dX4_isGood_41 (by decide) ?_
            refine jd_goto (tgt := 46) dX4_isGood_42 (by decide) ?_
            exact jd_top (congrArg Value.int (jd_b1 z20).symm) hj18
        · exact jd_zret dX4_isGood_46 rfl (jd_b01 _) (jd_mo.ok (γ' := γ) (μ' := (mu_s μ 0 0 0)) (by unfold c_isGood; (try simp only [hT_s, hT_g]); rw [if_pos hcc7, if_pos hcc14]) (by first | (simp only [hT_s, hT_g]; done) | (simp only [hT_s, hT_g]; rfl) | rfl) rfl hw15 rfl (fun j hj => (ho15 j (ll_nel (by decide) hj))))

set_option maxRecDepth 20000 in
set_option maxHeartbeats 2000000 in
theorem ct_X4_revoke {G : jd_G} {γ : ll_B} {κ : ll_K} {μ : ll_U} {h : jd_H} (hw : WM G γ κ μ h) (hI : ll_I κ) (g : Int32) (v : Int32) : jd_Ct G mX4_revoke 3 (0) (0) [.ref (γ 0 0), .int (g), .int (v)] h (jd_mo G γ κ h (c_revoke κ g v) (.int (jd_b (¬ gRev κ (tN g) (tN v) = true))) (k_revoke κ (tN g) (tN v))) jd_no := by
  obtain ⟨⟨hG8, hS12, hP24, hH40, hN99, hH24⟩, hIg, hIs, hIp, hIh, hIl, hIq⟩ := id hI
  obtain ⟨mcG, hlG⟩ := w_mgates hw
  obtain ⟨mcS, hlS⟩ := w_msleepers hw
  obtain ⟨mcP, hlP⟩ := w_mparts hw
  obtain ⟨mcH, hlH⟩ := w_mhidings hw
  refine jd_ct (ls := [some (.ref (γ 0 0)), some (.int (g)), some (.int (v)), none]) rfl rfl (by decide) (Nat.le_of_ble_eq_true rfl) rfl ?_
  refine jd_aload_n dX4_revoke_0 rfl ?_
  refine jd_aload_n dX4_revoke_1 rfl ?_
  refine jd_iload_n dX4_revoke_2 rfl ?_
  refine jd_pV (As := [.int (g)]) (rest := [.ref (γ 0 0)]) (ct_X4_isGate hw hI (g)) (jd_rv (w_mthis hw) 9 rfl rfl) rfl q1580 q1582 qs51 q90 q1583 nX4_isGate dX4_revoke_3 rfl rfl rfl (Nat.le_of_ble_eq_true rfl) ⟨(Nat.le_of_ble_eq_true rfl), (Nat.le_of_ble_eq_true rfl)⟩ ?_
  refine jd_bif_ne (tgt := 13) dX4_revoke_6 (by decide) (fun z1 => ?_) (fun z2 => ?_)
  · have hcc3 := z1
    obtain ⟨k_g, hk_g, rfl⟩ := inN_ex (n := (nG κ)) (by omega) hcc3
    have hT_g := tN_nI (show k_g < 2 ^ 31 by omega)
    refine jd_iload_n dX4_revoke_13 rfl ?_
    refine jd_iconst (v := 0) dX4_revoke_14 (by decide) ?_
    refine jd_bipush (v := 96) dX4_revoke_15 (by decide) ?_
    refine jd_pS (As := [.int (v), .int (0), .int (96)]) (rest := [.ref (γ 0 0)]) (ct_X4_is (v) (0) (96)) rfl q1518 q1519 q90 q1520 nX4_is dX4_revoke_17 rfl rfl (Nat.le_of_ble_eq_true rfl) ⟨(Nat.le_of_ble_eq_true rfl), (Nat.le_of_ble_eq_true rfl)⟩ ?_
    refine jd_bif_ne (tgt := 27) dX4_revoke_20 (by decide) (fun z4 => ?_) (fun z5 => ?_)
    · have hcc6 := z4
      obtain ⟨k_v, hk_v, rfl⟩ := inR_ex (lo := 0) (hi := 96) hcc6 (by omega) (by omega)
      have hT_v := tN_nI (show k_v < 2 ^ 31 by omega)
      refine jd_iconst (v := 0) dX4_revoke_27 (by decide) ?_
      refine jd_put (fs' := [_, _, _, _, _, _, _, _, _, _, _, _, _]) in_X4 tyX4_ok nmX4 (w_mthis hw) 0 q1466 dX4_revoke_28 rfl (Nat.le_of_ble_eq_true rfl) rfl rfl rfl (Nat.le_of_ble_eq_true rfl) rfl ?_
      refine jd_updG (fun h7 hs7 ho7 => ?_)
      have hw7 := m_thrown hw (v := 0) hs7 ho7
      refine jd_aload_n dX4_revoke_31 rfl ?_
      refine jd_get in_X4 (w_mthis hw7) 0 q1466 dX4_revoke_32 rfl (Nat.le_of_ble_eq_true rfl) rfl ?_
      refine jd_top (w := .int 0) rfl ?_
      refine jd_nif_le (a := 0) (tgt := 40) dX4_revoke_35 (by decide) (by omega) (fun z8 => ?_) (fun z9 => ?_)
      · refine jd_aload_n dX4_revoke_40 rfl ?_
        refine jd_get in_X4 (w_mthis hw7) 7 q1473 dX4_revoke_41 rfl (Nat.le_of_ble_eq_true rfl) rfl ?_
        refine jd_iload_n dX4_revoke_44 rfl ?_
        obtain ⟨mcl10, hl10_⟩ := w_mgates hw7
        refine jd_pV (As := [.int (nI k_g)]) (rest := []) (ct_J2_get hl10_ (show nG κ ≤ 900 by omega) (k := k_g) (show k_g < nG κ by omega)) (jd_rv hl10_ 15 rfl rfl) rfl q1584 q325 q2001 q83 q327 nJ2_get dX4_revoke_45 rfl rfl rfl (Nat.le_of_ble_eq_true rfl) ⟨(Nat.le_of_ble_eq_true rfl), (Nat.le_of_ble_eq_true rfl)⟩ ?_
        refine jd_castS (jd_rv ((w_mgate hw7) k_g (show k_g < nG κ by omega)) 11 rfl rfl) (ci := 11) rfl q1534 dX4_revoke_48 ?_
        refine jd_getN in_X8 ((w_mgate hw7) k_g (show k_g < nG κ by omega)) 7 q1557 dX4_revoke_51 rfl (Nat.le_of_ble_eq_true rfl) rfl ?_
        refine jd_iload_n dX4_revoke_54 rfl ?_
        refine jd_zald ((w_mrev hw7) k_g (show k_g < nG κ by omega)) dX4_revoke_55 (vp_in_nI (by omega) (by omega)) ?_
        refine jd_top (w := .int (jd_b (gRev κ k_g k_v = true))) (by rw [nI_clamp (by omega)]) ?_
        refine jd_istore_n (ls' := [_, _, _, _]) dX4_revoke_56 (Nat.le_of_ble_eq_true rfl) rfl rfl ?_
        refine jd_aload_n dX4_revoke_57 rfl ?_
        refine jd_get in_X4 (w_mthis hw7) 7 q1473 dX4_revoke_58 rfl (Nat.le_of_ble_eq_true rfl) rfl ?_
        refine jd_iload_n dX4_revoke_61 rfl ?_
        refine jd_pV (As := [.int (nI k_g)]) (rest := []) (ct_J2_get hl10_ (show nG κ ≤ 900 by omega) (k := k_g) (show k_g < nG κ by omega)) (jd_rv hl10_ 15 rfl rfl) rfl q1584 q325 q2001 q83 q327 nJ2_get dX4_revoke_62 rfl rfl rfl (Nat.le_of_ble_eq_true rfl) ⟨(Nat.le_of_ble_eq_true rfl), (Nat.le_of_ble_eq_true rfl)⟩ ?_
        refine jd_castS (jd_rv ((w_mgate hw7) k_g (show k_g < nG κ by omega)) 11 rfl rfl) (ci := 11) rfl q1534 dX4_revoke_65 ?_
        refine jd_getN in_X8 ((w_mgate hw7) k_g (show k_g < nG κ by omega)) 7 q1557 dX4_revoke_68 rfl (Nat.le_of_ble_eq_true rfl) rfl ?_
        refine jd_iload_n dX4_revoke_71 rfl ?_
        refine jd_iconst (v := 1) dX4_revoke_72 (by decide) ?_
        refine jd_zast ((w_mrev hw7) k_g (show k_g < nG κ by omega)) dX4_revoke_73 (vp_in_nI (by omega) (by omega)) (Or.inr rfl) ?_
        refine jd_updG (fun h11 hs11 ho11 => ?_)
        have hw11 := m_gRev hw7 (k := k_g) (show k_g < nG κ by omega) (V := (fun x => if x = k_v then true else gRev κ k_g x)) (rev_upd (by omega)) hs11 ho11
        refine jd_iload_n dX4_revoke_74 rfl ?_
        refine jd_mg1 83 (.int (jd_b ((¬ (gRev κ k_g k_v = true))))) (fun hj12 => ?_) ?_
        · refine jd_bif_ne (tgt := 82) dX4_revoke_75 (by decide) (fun z13 => ?_) (fun z14 => ?_)
          · refine jd_iconst (v := 0) dX4_revoke_82 (by decide) ?_
            exact jd_top (congrArg Value.int (jd_b0 (fun w => w z13)).symm) hj12
          · refine jd_iconst (v := 1) dX4_revoke_78 (by decide) ?_
            refine jd_goto (tgt := 83) dX4_revoke_79 (by decide) ?_
            exact jd_top (congrArg Value.int (jd_b1 z14).symm) hj12
        · exact jd_zret dX4_revoke_83 rfl (jd_b01 _) (jd_mo.ok (γ' := γ) (μ' := (mu_s μ 0 0 0)) (by unfold c_revoke; (try simp only [hT_g, hT_v]); rw [if_pos hcc3, if_pos hcc6]) (by first | (simp only [hT_g, hT_v]; done) | (simp only [hT_g, hT_v]; rfl) | rfl) rfl (by first | (simp only [hT_g, hT_v]; exact hw11) | exact hw11) rfl (fun j hj => ((ho11 j (ll_nel (by decide) hj)).trans (ho7 j (ll_nel (by decide) hj)))))
      · omega
    · have hcc15 := z5
      refine jd_iconst (v := 2) dX4_revoke_23 (by decide) ?_
      refine jd_goto (tgt := 28) dX4_revoke_24 (by decide) ?_
      refine jd_put (fs' := [_, _, _, _, _, _, _, _, _, _, _, _, _]) in_X4 tyX4_ok nmX4 (w_mthis hw) 0 q1466 dX4_revoke_28 rfl (Nat.le_of_ble_eq_true rfl) rfl rfl rfl (Nat.le_of_ble_eq_true rfl) rfl ?_
      refine jd_updG (fun h16 hs16 ho16 => ?_)
      have hw16 := m_thrown hw (v := 2) hs16 ho16
      refine jd_aload_n dX4_revoke_31 rfl ?_
      refine jd_get in_X4 (w_mthis hw16) 0 q1466 dX4_revoke_32 rfl (Nat.le_of_ble_eq_true rfl) rfl ?_
      refine jd_top (w := .int 2) rfl ?_
      refine jd_nif_le (a := 2) (tgt := 40) dX4_revoke_35 (by decide) (by omega) (fun z17 => ?_) (fun z18 => ?_)
      · omega
      · refine jd_iconst (v := 0) dX4_revoke_38 (by decide) ?_
        exact jd_zret dX4_revoke_39 rfl (Or.inl rfl) (jd_mo.no (γ' := γ) (μ' := (mu_s μ 0 0 2)) (k := 2) (by unfold c_revoke; (try simp only [hT_g]); rw [if_pos hcc3, if_neg hcc15]) (by decide) rfl hw16 rfl (fun j hj => (ho16 j (ll_nel (by decide) hj))))
  · have hcc19 := z2
    refine jd_iconst (v := 1) dX4_revoke_9 (by decide) ?_
    refine jd_goto (tgt := 28) dX4_revoke_10 (by decide) ?_
    refine jd_put (fs' := [_, _, _, _, _, _, _, _, _, _, _, _, _]) in_X4 tyX4_ok nmX4 (w_mthis hw) 0 q1466 dX4_revoke_28 rfl (Nat.le_of_ble_eq_true rfl) rfl rfl rfl (Nat.le_of_ble_eq_true rfl) rfl ?_
    refine jd_updG (fun h20 hs20 ho20 => ?_)
    have hw20 := m_thrown hw (v := 1) hs20 ho20
    refine jd_aload_n dX4_revoke_31 rfl ?_
    refine jd_get in_X4 (w_mthis hw20) 0 q1466 dX4_revoke_32 rfl (Nat.le_of_ble_eq_true rfl) rfl ?_
    refine jd_top (w := .int 1) rfl ?_
    refine jd_nif_le (a := 1) (tgt := 40) dX4_revoke_35 (by decide) (by omega) (fun z21 => ?_) (fun z22 => ?_)
    · omega
    · refine jd_iconst (v := 0) dX4_revoke_38 (by decide) ?_
      exact jd_zret dX4_revoke_39 rfl (Or.inl rfl) (jd_mo.no (γ' := γ) (μ' := (mu_s μ 0 0 1)) (k := 1) (by unfold c_revoke; rw [if_neg hcc19]) (by decide) rfl hw20 rfl (fun j hj => (ho20 j (ll_nel (by decide) hj))))

set_option maxRecDepth 20000 in
set_option maxHeartbeats 2000000 in
theorem ct_X4_appeal {G : jd_G} {γ : ll_B} {κ : ll_K} {μ : ll_U} {h : jd_H} (hw : WM G γ κ μ h) (hI : ll_I κ) (p : Int32) : jd_Ct G mX4_appeal 3 (0) (0) [.ref (γ 0 0), .int (p)] h (jd_mo G γ κ h (c_appeal κ p) (.int (jd_b (apOk κ (tN p) ((pStore κ (tN p)).getD 0) ((pBy κ (tN p)).getD 0)))) (if apOk κ (tN p) ((pStore κ (tN p)).getD 0) ((pBy κ (tN p)).getD 0) then k_appeal κ (tN p) ((pStore κ (tN p)).getD 0) else κ)) jd_no := by
  obtain ⟨⟨hG8, hS12, hP24, hH40, hN99, hH24⟩, hIg, hIs, hIp, hIh, hIl, hIq⟩ := id hI
  obtain ⟨mcG, hlG⟩ := w_mgates hw
  obtain ⟨mcS, hlS⟩ := w_msleepers hw
  obtain ⟨mcP, hlP⟩ := w_mparts hw
  obtain ⟨mcH, hlH⟩ := w_mhidings hw
  refine jd_ct (ls := [some (.ref (γ 0 0)), some (.int (p)), none, none, none]) rfl rfl (by decide) (Nat.le_of_ble_eq_true rfl) rfl ?_
  refine jd_aload_n dX4_appeal_0 rfl ?_
  refine jd_iconst (v := 0) dX4_appeal_1 (by decide) ?_
  refine jd_put (fs' := [_, _, _, _, _, _, _, _, _, _, _, _, _]) in_X4 tyX4_ok nmX4 (w_mthis hw) 0 q1466 dX4_appeal_2 rfl (Nat.le_of_ble_eq_true rfl) rfl rfl rfl (Nat.le_of_ble_eq_true rfl) rfl ?_
  refine jd_updG (fun h1 hs1 ho1 => ?_)
  have hw1 := m_thrown hw (v := 0) hs1 ho1
  refine jd_aload_n dX4_appeal_5 rfl ?_
  refine jd_iload_n dX4_appeal_6 rfl ?_
  refine jd_pV (As := [.int (p)]) (rest := []) (ct_X4_isPart hw1 hI (p)) (jd_rv (w_mthis hw1) 9 rfl rfl) rfl q1669 q1671 qs53 q90 q1672 nX4_isPart dX4_appeal_7 rfl rfl rfl (Nat.le_of_ble_eq_true rfl) ⟨(Nat.le_of_ble_eq_true rfl), (Nat.le_of_ble_eq_true rfl)⟩ ?_
  refine jd_bif_ne (tgt := 21) dX4_appeal_10 (by decide) (fun z2 => ?_) (fun z3 => ?_)
  · have hcc4 := z2
    obtain ⟨k_p, hk_p, rfl⟩ := inN_ex (n := (nP κ)) (by omega) hcc4
    have hT_p := tN_nI (show k_p < 2 ^ 31 by omega)
    have hp9 := hIp k_p hk_p
    have hp8 := hp9.2.2.2.1
    have hat := at_bd hI hk_p
    refine jd_aload_n dX4_appeal_21 rfl ?_
    refine jd_get in_X4 (w_mthis hw1) 9 q1475 dX4_appeal_22 rfl (Nat.le_of_ble_eq_true rfl) rfl ?_
    refine jd_iload_n dX4_appeal_25 rfl ?_
    obtain ⟨mcl5, hl5_⟩ := w_mparts hw1
    refine jd_pV (As := [.int (nI k_p)]) (rest := []) (ct_J2_get hl5_ (show nP κ ≤ 900 by omega) (k := k_p) (show k_p < nP κ by omega)) (jd_rv hl5_ 15 rfl rfl) rfl q1584 q325 q2001 q83 q327 nJ2_get dX4_appeal_26 rfl rfl rfl (Nat.le_of_ble_eq_true rfl) ⟨(Nat.le_of_ble_eq_true rfl), (Nat.le_of_ble_eq_true rfl)⟩ ?_
    refine jd_castS (jd_rv ((w_mpart hw1) k_p (show k_p < nP κ by omega)) 13 rfl rfl) (ci := 13) rfl q1638 dX4_appeal_29 ?_
    refine jd_getN in_X12 ((w_mpart hw1) k_p (show k_p < nP κ by omega)) 3 q1648 dX4_appeal_32 rfl (Nat.le_of_ble_eq_true rfl) rfl ?_
    refine jd_iconst (v := 3) dX4_appeal_35 (by decide) ?_
    refine jd_ncmp_ne (a := (pFate κ k_p)) (b := 3) (tgt := 63) dX4_appeal_36 (by decide) (by omega) (by omega) (fun z6 => ?_) (fun z7 => ?_)
    · have hcc8 := z6
      refine jd_aload_n dX4_appeal_63 rfl ?_
      refine jd_iconst (v := 2) dX4_appeal_64 (by decide) ?_
      refine jd_put (fs' := [_, _, _, _, _, _, _, _, _, _, _, _, _]) in_X4 tyX4_ok nmX4 (w_mthis hw1) 0 q1466 dX4_appeal_65 rfl (Nat.le_of_ble_eq_true rfl) rfl rfl rfl (Nat.le_of_ble_eq_true rfl) rfl ?_
      refine jd_updG (fun h9 hs9 ho9 => ?_)
      have hw9 := m_thrown hw1 (v := 2) hs9 ho9
      refine jd_aload_n dX4_appeal_68 rfl ?_
      refine jd_get in_X4 (w_mthis hw9) 0 q1466 dX4_appeal_69 rfl (Nat.le_of_ble_eq_true rfl) rfl ?_
      refine jd_top (w := .int 2) rfl ?_
      refine jd_nif_le (a := 2) (tgt := 77) dX4_appeal_72 (by decide) (by omega) (fun z10 => ?_) (fun z11 => ?_)
      · omega
      · refine jd_iconst (v := 0) dX4_appeal_75 (by decide) ?_
        exact jd_zret dX4_appeal_76 rfl (Or.inl rfl) (jd_mo.no (γ' := γ) (μ' := (mu_s (mu_s μ 0 0 0) 0 0 2)) (k := 2) (by unfold c_appeal; (try simp only [hT_p]); rw [if_pos hcc4, if_neg (fun w => hcc8 w.1)]) (by decide) rfl hw9 rfl (fun j hj => ((ho9 j (ll_nel (by decide) hj)).trans (ho1 j (ll_nel (by decide) hj)))))
    · have hf3 := z7
      have hcc12 := z7
      refine jd_aload_n dX4_appeal_39 rfl ?_
      refine jd_get in_X4 (w_mthis hw1) 9 q1475 dX4_appeal_40 rfl (Nat.le_of_ble_eq_true rfl) rfl ?_
      refine jd_iload_n dX4_appeal_43 rfl ?_
      refine jd_pV (As := [.int (nI k_p)]) (rest := []) (ct_J2_get hl5_ (show nP κ ≤ 900 by omega) (k := k_p) (show k_p < nP κ by omega)) (jd_rv hl5_ 15 rfl rfl) rfl q1584 q325 q2001 q83 q327 nJ2_get dX4_appeal_44 rfl rfl rfl (Nat.le_of_ble_eq_true rfl) ⟨(Nat.le_of_ble_eq_true rfl), (Nat.le_of_ble_eq_true rfl)⟩ ?_
      refine jd_castS (jd_rv ((w_mpart hw1) k_p (show k_p < nP κ by omega)) 13 rfl rfl) (ci := 13) rfl q1638 dX4_appeal_47 ?_
      refine jd_getN in_X12 ((w_mpart hw1) k_p (show k_p < nP κ by omega)) 4 q1649 dX4_appeal_50 rfl (Nat.le_of_ble_eq_true rfl) rfl ?_
      refine jd_bipush (v := 100) dX4_appeal_53 (by decide) ?_
      refine jd_bipush (v := 105) dX4_appeal_55 (by decide) ?_
      refine jd_pS (As := [.int (nI ((pAt κ k_p))), .int (100), .int (105)]) (rest := []) (ct_X4_is (nI ((pAt κ k_p))) (100) (105)) rfl q1518 q1519 q90 q1520 nX4_is dX4_appeal_57 rfl rfl (Nat.le_of_ble_eq_true rfl) ⟨(Nat.le_of_ble_eq_true rfl), (Nat.le_of_ble_eq_true rfl)⟩ ?_
      refine jd_bif_ne (tgt := 68) dX4_appeal_60 (by decide) (fun z13 => ?_) (fun z14 => ?_)
      · have hcc15 := ((at_st hI hk_p).mp z13)
        obtain ⟨sl, hsl⟩ := Option.ne_none_iff_exists'.mp hcc15
        have hp1 := hIp k_p hk_p
        obtain ⟨sb, hsb⟩ := Option.ne_none_iff_exists'.mp (hp1.2.2.2.2.2.2 hf3)
        have hsl2 := hp1.2.1 sl hsl
        have hsb2 := hp1.2.2.1 sb hsb
        have hs1 := hIs sb hsb2
        have hs2 := hs1.2.1
        have hs3 := hs1.1
        have hgl : (pStore κ k_p).getD 0 = sl := by rw [hsl]; rfl
        have hgb : (pBy κ k_p).getD 0 = sb := by rw [hsb]; rfl
        have hatl : pAt κ k_p = 100 + sl := (at_store hI hk_p hsl2.1).mpr hsl
        refine jd_aload_n dX4_appeal_68 rfl ?_
        refine jd_get in_X4 (w_mthis hw1) 0 q1466 dX4_appeal_69 rfl (Nat.le_of_ble_eq_true rfl) rfl ?_
        refine jd_top (w := .int 0) rfl ?_
        refine jd_nif_le (a := 0) (tgt := 77) dX4_appeal_72 (by decide) (by omega) (fun z16 => ?_) (fun z17 => ?_)
        · refine jd_aload_n dX4_appeal_77 rfl ?_
          refine jd_get in_X4 (w_mthis hw1) 9 q1475 dX4_appeal_78 rfl (Nat.le_of_ble_eq_true rfl) rfl ?_
          refine jd_iload_n dX4_appeal_81 rfl ?_
          refine jd_pV (As := [.int (nI k_p)]) (rest := []) (ct_J2_get hl5_ (show nP κ ≤ 900 by omega) (k := k_p) (show k_p < nP κ by omega)) (jd_rv hl5_ 15 rfl rfl) rfl q1584 q325 q2001 q83 q327 nJ2_get dX4_appeal_82 rfl rfl rfl (Nat.le_of_ble_eq_true rfl) ⟨(Nat.le_of_ble_eq_true rfl), (Nat.le_of_ble_eq_true rfl)⟩ ?_
          refine jd_castS (jd_rv ((w_mpart hw1) k_p (show k_p < nP κ by omega)) 13 rfl rfl) (ci := 13) rfl q1638 dX4_appeal_85 ?_
          refine jd_astore_n (ls' := [_, _, _, _, _]) dX4_appeal_88 (Nat.le_of_ble_eq_true rfl) rfl rfl ?_
          refine jd_aload_n dX4_appeal_89 rfl ?_
          refine jd_get in_X4 (w_mthis hw1) 6 q1472 dX4_appeal_90 rfl (Nat.le_of_ble_eq_true rfl) rfl ?_
          refine jd_aload_n dX4_appeal_93 rfl ?_
          refine jd_getN in_X12 ((w_mpart hw1) k_p (show k_p < nP κ by omega)) 4 q1649 dX4_appeal_94 rfl (Nat.le_of_ble_eq_true rfl) rfl ?_
          refine jd_bipush (v := 100) dX4_appeal_97 (by decide) ?_
          refine jd_isubN (a := (pAt κ k_p)) (b := 100) dX4_appeal_99 (by omega) ?_
          refine jd_top (w := .int (nI sl)) (congrArg (fun x => Value.int (nI x)) (by rw [hatl]; omega)) ?_
          refine jd_aald (y := γ 1 sl) (w_mlands hw1) dX4_appeal_100 5 rfl (vp_in_nI (by omega) (by omega)) (by rw [nI_clamp (by omega)]) ?_
          refine jd_astore_n (ls' := [_, _, _, _, _]) dX4_appeal_101 (Nat.le_of_ble_eq_true rfl) rfl rfl ?_
          refine jd_aload_n dX4_appeal_102 rfl ?_
          refine jd_get in_X4 (w_mthis hw1) 8 q1474 dX4_appeal_103 rfl (Nat.le_of_ble_eq_true rfl) rfl ?_
          refine jd_aload_n dX4_appeal_106 rfl ?_
          refine jd_getN in_X12 ((w_mpart hw1) k_p (show k_p < nP κ by omega)) 5 q1651 dX4_appeal_107 rfl (Nat.le_of_ble_eq_true rfl) rfl ?_
          refine jd_top (w := .int (nI sb)) (congrArg Value.int (by rw [hsb]; rfl)) ?_
          obtain ⟨mcl18, hl18_⟩ := w_msleepers hw1
          refine jd_pV (As := [.int (nI sb)]) (rest := []) (ct_J2_get hl18_ (show nS κ ≤ 900 by omega) (k := sb) (show sb < nS κ by omega)) (jd_rv hl18_ 15 rfl rfl) rfl q1584 q325 q2001 q83 q327 nJ2_get dX4_appeal_110 rfl rfl rfl (Nat.le_of_ble_eq_true rfl) ⟨(Nat.le_of_ble_eq_true rfl), (Nat.le_of_ble_eq_true rfl)⟩ ?_
          refine jd_castS (jd_rv ((w_msleeper hw1) sb (show sb < nS κ by omega)) 12 rfl rfl) (ci := 12) rfl q1593 dX4_appeal_113 ?_
          refine jd_astore (ls' := [_, _, _, _, _]) dX4_appeal_116 (Nat.le_of_ble_eq_true rfl) rfl rfl ?_
          refine jd_aload_n dX4_appeal_118 rfl ?_
          refine jd_getN in_X12 ((w_mpart hw1) k_p (show k_p < nP κ by omega)) 1 q1645 dX4_appeal_119 rfl (Nat.le_of_ble_eq_true rfl) rfl ?_
          refine jd_aload_n dX4_appeal_122 rfl ?_
          refine jd_getN in_X5 ((w_mland hw1) sl (show sl < 6 by omega)) 1 q1447 dX4_appeal_123 rfl (Nat.le_of_ble_eq_true rfl) rfl ?_
          refine jd_icmp_gt (tgt := 152) dX4_appeal_126 (by decide) (fun z19 => ?_) (fun z20 => ?_)
          · refine jd_iconst (v := 0) dX4_appeal_152 (by decide) ?_
            exact jd_zret dX4_appeal_153 rfl (Or.inl rfl) (jd_mo.ok (γ' := γ) (μ' := (mu_s μ 0 0 0)) (by unfold c_appeal; (try simp only [hT_p, hgl, hgb]); rw [if_pos hcc4, if_pos ⟨hcc12, hcc15⟩]) (by simp only [hT_p, hgl, hgb]; rw [jd_b0 (show ¬ apOk κ k_p sl sb from (fun w => w.1 z19))]) rfl (by simp only [hT_p, hgl, hgb]; rw [if_neg (show ¬ apOk κ k_p sl sb from (fun w => w.1 z19))]; exact hw1) rfl (fun j hj => (ho1 j (ll_nel (by decide) hj))))
          · refine jd_aload dX4_appeal_129 rfl ?_
            refine jd_getN in_X10 ((w_msleeper hw1) sb (show sb < nS κ by omega)) 0 q1599 dX4_appeal_131 rfl (Nat.le_of_ble_eq_true rfl) rfl ?_
            refine jd_aload_n dX4_appeal_134 rfl ?_
            refine jd_getN in_X12 ((w_mpart hw1) k_p (show k_p < nP κ by omega)) 4 q1649 dX4_appeal_135 rfl (Nat.le_of_ble_eq_true rfl) rfl ?_
            refine jd_bipush (v := 100) dX4_appeal_138 (by decide) ?_
            refine jd_isubN (a := (pAt κ k_p)) (b := 100) dX4_appeal_140 (by omega) ?_
            refine jd_top (w := .int (nI sl)) (congrArg (fun x => Value.int (nI x)) (by rw [hatl]; omega)) ?_
            refine jd_ncmp_ne (a := (sLand κ sb)) (b := sl) (tgt := 152) dX4_appeal_141 (by decide) (by omega) (by omega) (fun z21 => ?_) (fun z22 => ?_)
            · refine jd_iconst (v := 0) dX4_appeal_152 (by decide) ?_
              exact jd_zret dX4_appeal_153 rfl (Or.inl rfl) (jd_mo.ok (γ' := γ) (μ' := (mu_s μ 0 0 0)) (by unfold c_appeal; (try simp only [hT_p, hgl, hgb]); rw [if_pos hcc4, if_pos ⟨hcc12, hcc15⟩]) (by simp only [hT_p, hgl, hgb]; rw [jd_b0 (show ¬ apOk κ k_p sl sb from (fun w => z21 w.2.1))]) rfl (by simp only [hT_p, hgl, hgb]; rw [if_neg (show ¬ apOk κ k_p sl sb from (fun w => z21 w.2.1))]; exact hw1) rfl (fun j hj => (ho1 j (ll_nel (by decide) hj))))
            · refine jd_aload dX4_appeal_144 rfl ?_
              refine jd_getN in_X10 ((w_msleeper hw1) sb (show sb < nS κ by omega)) 3 q1602 dX4_appeal_146 rfl (Nat.le_of_ble_eq_true rfl) rfl ?_
              refine jd_nif_eq (a := (sRest κ sb)) (tgt := 154) dX4_appeal_149 (by decide) (by omega) (fun z23 => ?_) (fun z24 => ?_)
              · refine jd_aload_n dX4_appeal_154 rfl ?_
                refine jd_dup dX4_appeal_155 rfl ?_
                refine jd_getN in_X5 ((w_mland hw1) sl (show sl < 6 by omega)) 5 q1452 dX4_appeal_156 rfl (Nat.le_of_ble_eq_true rfl) rfl ?_
                refine jd_aload_n dX4_appeal_159 rfl ?_
                refine jd_getN in_X12 ((w_mpart hw1) k_p (show k_p < nP κ by omega)) 1 q1645 dX4_appeal_160 rfl (Nat.le_of_ble_eq_true rfl) rfl ?_
                refine jd_isub dX4_appeal_163 ?_
                refine jd_putN (fs' := [_, _, _, _, _, _]) in_X5 tyX5_ok nmX5 ((w_mland hw1) sl (show sl < 6 by omega)) 5 q1452 dX4_appeal_164 rfl (Nat.le_of_ble_eq_true rfl) rfl rfl rfl (Nat.le_of_ble_eq_true rfl) rfl ?_
                refine jd_updG (fun h25 hs25 ho25 => ?_)
                have hw25 := m_lFin hw1 (k := sl) (show sl < 6 by omega) (v := ((lFin κ sl) - (pWorth κ k_p))) hs25 ho25
                refine jd_aload_n dX4_appeal_167 rfl ?_
                refine jd_aload_n dX4_appeal_168 rfl ?_
                refine jd_getN in_X12 ((w_mpart hw25) k_p (show k_p < nP κ by omega)) 5 q1651 dX4_appeal_169 rfl (Nat.le_of_ble_eq_true rfl) rfl ?_
                refine jd_top (w := .int (nI sb)) (congrArg Value.int (show oI (pBy κ k_p) = nI sb from by rw [hsb]; rfl)) ?_
                refine jd_putN (fs' := [_, _, _, _, _, _]) in_X12 tyX12_ok nmX12 ((w_mpart hw25) k_p (show k_p < nP κ by omega)) 4 q1649 dX4_appeal_172 rfl (Nat.le_of_ble_eq_true rfl) rfl rfl rfl (Nat.le_of_ble_eq_true rfl) rfl ?_
                refine jd_updG (fun h26 hs26 ho26 => ?_)
                have hw26 := m_atHN hw25 (k := k_p) (show k_p < nP κ by omega) (v := sb) hs26 ho26
                refine jd_aload_n dX4_appeal_175 rfl ?_
                refine jd_iconst (v := 2) dX4_appeal_176 (by decide) ?_
                refine jd_putN (fs' := [_, _, _, _, _, _]) in_X12 tyX12_ok nmX12 ((w_mpart hw26) k_p (show k_p < nP κ by omega)) 3 q1648 dX4_appeal_177 rfl (Nat.le_of_ble_eq_true rfl) rfl rfl rfl (Nat.le_of_ble_eq_true rfl) rfl ?_
                refine jd_updG (fun h27 hs27 ho27 => ?_)
                have hw27 := m_pFate hw26 (k := k_p) (show k_p < nP κ by omega) (v := 2) hs27 ho27
                refine jd_iconst (v := 1) dX4_appeal_180 (by decide) ?_
                exact jd_zret dX4_appeal_181 rfl (Or.inr rfl) (jd_mo.ok (γ' := γ) (μ' := (mu_s μ 0 0 0)) (by unfold c_appeal; (try simp only [hT_p, hgl, hgb]); rw [if_pos hcc4, if_pos ⟨hcc12, hcc15⟩]) (by simp only [hT_p, hgl, hgb]; rw [jd_b1 (show apOk κ k_p sl sb from ⟨z20, z22, z23⟩)]) rfl (by simp only [hT_p, hgl, hgb]; rw [if_pos (show apOk κ k_p sl sb from ⟨z20, z22, z23⟩), k_appeal_eq hsb]; exact hw27) rfl (fun j hj => ((ho27 j (ll_nel (by decide) hj)).trans ((ho26 j (ll_nel (by decide) hj)).trans ((ho25 j (ll_nel (by decide) hj)).trans (ho1 j (ll_nel (by decide) hj)))))))
              · refine jd_iconst (v := 0) dX4_appeal_152 (by decide) ?_
                exact jd_zret dX4_appeal_153 rfl (Or.inl rfl) (jd_mo.ok (γ' := γ) (μ' := (mu_s μ 0 0 0)) (by unfold c_appeal; (try simp only [hT_p, hgl, hgb]); rw [if_pos hcc4, if_pos ⟨hcc12, hcc15⟩]) (by simp only [hT_p, hgl, hgb]; rw [jd_b0 (show ¬ apOk κ k_p sl sb from (fun w => z24 w.2.2))]) rfl (by simp only [hT_p, hgl, hgb]; rw [if_neg (show ¬ apOk κ k_p sl sb from (fun w => z24 w.2.2))]; exact hw1) rfl (fun j hj => (ho1 j (ll_nel (by decide) hj))))
        · omega
      · have hcc28 := (fun w => z14 ((at_st hI hk_p).mpr w))
        refine jd_aload_n dX4_appeal_63 rfl ?_
        refine jd_iconst (v := 2) dX4_appeal_64 (by decide) ?_
        refine jd_put (fs' := [_, _, _, _, _, _, _, _, _, _, _, _, _]) in_X4 tyX4_ok nmX4 (w_mthis hw1) 0 q1466 dX4_appeal_65 rfl (Nat.le_of_ble_eq_true rfl) rfl rfl rfl (Nat.le_of_ble_eq_true rfl) rfl ?_
        refine jd_updG (fun h29 hs29 ho29 => ?_)
        have hw29 := m_thrown hw1 (v := 2) hs29 ho29
        refine jd_aload_n dX4_appeal_68 rfl ?_
        refine jd_get in_X4 (w_mthis hw29) 0 q1466 dX4_appeal_69 rfl (Nat.le_of_ble_eq_true rfl) rfl ?_
        refine jd_top (w := .int 2) rfl ?_
        refine jd_nif_le (a := 2) (tgt := 77) dX4_appeal_72 (by decide) (by omega) (fun z30 => ?_) (fun z31 => ?_)
        · omega
        · refine jd_iconst (v := 0) dX4_appeal_75 (by decide) ?_
          exact jd_zret dX4_appeal_76 rfl (Or.inl rfl) (jd_mo.no (γ' := γ) (μ' := (mu_s (mu_s μ 0 0 0) 0 0 2)) (k := 2) (by unfold c_appeal; (try simp only [hT_p]); rw [if_pos hcc4, if_neg (fun w => hcc28 w.2)]) (by decide) rfl hw29 rfl (fun j hj => ((ho29 j (ll_nel (by decide) hj)).trans (ho1 j (ll_nel (by decide) hj)))))
  · have hcc32 := z3
    refine jd_aload_n dX4_appeal_13 rfl ?_
    refine jd_iconst (v := 1) dX4_appeal_14 (by decide) ?_
    refine jd_put (fs' := [_, _, _, _, _, _, _, _, _, _, _, _, _]) in_X4 tyX4_ok nmX4 (w_mthis hw1) 0 q1466 dX4_appeal_15 rfl (Nat.le_of_ble_eq_true rfl) rfl rfl rfl (Nat.le_of_ble_eq_true rfl) rfl ?_
    refine jd_updG (fun h33 hs33 ho33 => ?_)
    have hw33 := m_thrown hw1 (v := 1) hs33 ho33
    refine jd_goto (tgt := 68) dX4_appeal_18 (by decide) ?_
    refine jd_aload_n dX4_appeal_68 rfl ?_
    refine jd_get in_X4 (w_mthis hw33) 0 q1466 dX4_appeal_69 rfl (Nat.le_of_ble_eq_true rfl) rfl ?_
    refine jd_top (w := .int 1) rfl ?_
    refine jd_nif_le (a := 1) (tgt := 77) dX4_appeal_72 (by decide) (by omega) (fun z34 => ?_) (fun z35 => ?_)
    · omega
    · refine jd_iconst (v := 0) dX4_appeal_75 (by decide) ?_
      exact jd_zret dX4_appeal_76 rfl (Or.inl rfl) (jd_mo.no (γ' := γ) (μ' := (mu_s (mu_s μ 0 0 0) 0 0 1)) (k := 1) (by unfold c_appeal; rw [if_neg hcc32]) (by decide) rfl hw33 rfl (fun j hj => ((ho33 j (ll_nel (by decide) hj)).trans (ho1 j (ll_nel (by decide) hj)))))
