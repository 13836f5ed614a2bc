/-! the model: new objects (printed by mk_c.py) -/
set_option maxRecDepth 20000 in
set_option maxHeartbeats 2000000 in
theorem ct_X10_init {G : jd_G} {h : jd_H} {i : jd_Id} {a : Nat} (ho : h i = some (a, .inl (.inr (12, [.int (0), .int (0), .int (0), .int (0), .int (0), .int (0), .int (0), .int (0), .int (0)]))))  : jd_Ct G mX10_init 1 (0) (0) [.ref (a)] h (jd_vd (jd_up h i (a, .inl (.inr (12, [.int (0), .int (0), .int (0), .int (0), .int ((-1)), .int (0), .int ((-1)), .int (0), .int ((-1))]))))) jd_no := by
  refine jd_ct (ls := [some (.ref (a))]) rfl rfl (by decide) (Nat.le_of_ble_eq_true rfl) rfl ?_
  refine jd_aload_n dX10_init_0 rfl ?_
  refine jd_oinit q1598 q130 q131 dX10_init_1 (Nat.le_of_ble_eq_true rfl) ?_ (Nat.le_of_ble_eq_true rfl)
  refine jd_aload_n dX10_init_4 rfl ?_
  refine jd_iconst (v := (-1)) dX10_init_5 (by decide) ?_
  refine jd_put (fs' := [_, _, _, _, _, _, _, _, _]) in_X10 tyX10_ok nmX10 ho 4 q1603 dX10_init_6 rfl (Nat.le_of_ble_eq_true rfl) rfl rfl rfl (Nat.le_of_ble_eq_true rfl) rfl ?_
  refine jd_aload_n dX10_init_9 rfl ?_
  refine jd_iconst (v := (-1)) dX10_init_10 (by decide) ?_
  refine jd_put (fs' := [_, _, _, _, _, _, _, _, _]) in_X10 tyX10_ok nmX10 jd_up_s 6 q1606 dX10_init_11 rfl (Nat.le_of_ble_eq_true rfl) rfl rfl rfl (Nat.le_of_ble_eq_true rfl) rfl ?_
  rw [jd_up_up]
  refine jd_aload_n dX10_init_14 rfl ?_
  refine jd_iconst (v := (-1)) dX10_init_15 (by decide) ?_
  refine jd_put (fs' := [_, _, _, _, _, _, _, _, _]) in_X10 tyX10_ok nmX10 jd_up_s 8 q1609 dX10_init_16 rfl (Nat.le_of_ble_eq_true rfl) rfl rfl rfl (Nat.le_of_ble_eq_true rfl) rfl ?_
  rw [jd_up_up]
  exact jd_vret dX10_init_19 rfl ⟨rfl, rfl⟩

set_option maxRecDepth 20000 in
set_option maxHeartbeats 2000000 in
theorem ct_X12_init {G : jd_G} {h : jd_H} {i : jd_Id} {a : Nat} (ho : h i = some (a, .inl (.inr (13, [.int (0), .int (0), .int (0), .int (0), .int (0), .int (0)]))))  : jd_Ct G mX12_init 1 (0) (0) [.ref (a)] h (jd_vd (jd_up h i (a, .inl (.inr (13, [.int (0), .int (0), .int (0), .int (0), .int (0), .int ((-1))]))))) jd_no := by
  refine jd_ct (ls := [some (.ref (a))]) rfl rfl (by decide) (Nat.le_of_ble_eq_true rfl) rfl ?_
  refine jd_aload_n dX12_init_0 rfl ?_
  refine jd_oinit q1643 q130 q131 dX12_init_1 (Nat.le_of_ble_eq_true rfl) ?_ (Nat.le_of_ble_eq_true rfl)
  refine jd_aload_n dX12_init_4 rfl ?_
  refine jd_iconst (v := (-1)) dX12_init_5 (by decide) ?_
  refine jd_put (fs' := [_, _, _, _, _, _]) in_X12 tyX12_ok nmX12 ho 5 q1650 dX12_init_6 rfl (Nat.le_of_ble_eq_true rfl) rfl rfl rfl (Nat.le_of_ble_eq_true rfl) rfl ?_
  exact jd_vret dX12_init_9 rfl ⟨rfl, rfl⟩

set_option maxRecDepth 20000 in
set_option maxHeartbeats 2000000 in
theorem ct_X4_sleeper {G : jd_G} {γ : ll_B} {κ : ll_K} {μ : ll_U} {h : jd_H} (hw : WM G γ κ μ h) (hI : ll_I κ) (l : Int32) (p : Int32) (b : Bool) : jd_Ct G mX4_sleeper 11 (2) (50) [.ref (γ 0 0), .int (l), .int (jd_b (b = true)), .int (p)] h (jd_mo G γ κ h (c_sleeper κ l p) (.int (nI (nS κ))) (k_addS κ (tN l) b p)) jd_no := by
  obtain ⟨⟨hG8, hS12, hP24, hH40, hN99, hH24⟩, hIg, hIs, hIp, hIh, hIl, hIq⟩ := id hI
  obtain ⟨mcG, hlG⟩ := w_mgates hw
  obtain ⟨mcS, hlS⟩ := w_msleepers hw
  obtain ⟨mcP, hlP⟩ := w_mparts hw
  obtain ⟨mcH, hlH⟩ := w_mhidings hw
  refine jd_ct (ls := [some (.ref (γ 0 0)), some (.int (l)), some (.int (jd_b (b = true))), some (.int (p)), none]) rfl rfl (by decide) (Nat.le_of_ble_eq_true rfl) rfl ?_
  refine jd_aload_n dX4_sleeper_0 rfl ?_
  refine jd_iconst (v := 0) dX4_sleeper_1 (by decide) ?_
  refine jd_put (fs' := [_, _, _, _, _, _, _, _, _, _, _, _, _]) in_X4 tyX4_ok nmX4 (w_mthis hw) 0 q1466 dX4_sleeper_2 rfl (Nat.le_of_ble_eq_true rfl) rfl rfl rfl (Nat.le_of_ble_eq_true rfl) rfl ?_
  refine jd_updG (fun h1 hs1 ho1 => ?_)
  have hw1 := m_thrown hw (v := 0) hs1 ho1
  refine jd_aload_n dX4_sleeper_5 rfl ?_
  refine jd_iload_n dX4_sleeper_6 rfl ?_
  refine jd_pV (As := [.int (l)]) (rest := []) (ct_X4_isLand hw1 hI (l)) (jd_rv (w_mthis hw1) 9 rfl rfl) rfl q1514 q1516 qs49 q90 q1517 nX4_isLand dX4_sleeper_7 rfl rfl rfl (Nat.le_of_ble_eq_true rfl) ⟨(Nat.le_of_ble_eq_true rfl), (Nat.le_of_ble_eq_true rfl)⟩ ?_
  refine jd_bif_ne (tgt := 19) dX4_sleeper_10 (by decide) (fun z2 => ?_) (fun z3 => ?_)
  · have hcc4 := (show ¬ l < 0 ∧ l < 6 from z2)
    obtain ⟨k_l, hk_l, rfl⟩ := inN_ex (n := 6) (by decide) hcc4
    have hT_l := tN_nI (show k_l < 2 ^ 31 by omega)
    refine jd_iload_n dX4_sleeper_19 rfl ?_
    refine jd_iconst (v := 1) dX4_sleeper_20 (by decide) ?_
    refine jd_bipush (v := 9) dX4_sleeper_21 (by decide) ?_
    refine jd_pS (As := [.int (p), .int (1), .int (9)]) (rest := []) (ct_X4_is (p) (1) (9)) rfl q1518 q1519 q90 q1520 nX4_is dX4_sleeper_23 rfl rfl (Nat.le_of_ble_eq_true rfl) ⟨(Nat.le_of_ble_eq_true rfl), (Nat.le_of_ble_eq_true rfl)⟩ ?_
    refine jd_bif_ne (tgt := 35) dX4_sleeper_26 (by decide) (fun z5 => ?_) (fun z6 => ?_)
    · have hcc7 := z5
      refine jd_aload_n dX4_sleeper_35 rfl ?_
      refine jd_get in_X4 (w_mthis hw1) 8 q1474 dX4_sleeper_36 rfl (Nat.le_of_ble_eq_true rfl) rfl ?_
      obtain ⟨mcl8, hl8_⟩ := w_msleepers hw1
      refine jd_pV (As := []) (rest := []) (ct_J2_size hl8_ (show nS κ ≤ 900 by omega)) (jd_rv hl8_ 15 rfl rfl) rfl q1533 q344 q1999 q83 q346 nJ2_size dX4_sleeper_39 rfl rfl rfl (Nat.le_of_ble_eq_true rfl) ⟨(Nat.le_of_ble_eq_true rfl), (Nat.le_of_ble_eq_true rfl)⟩ ?_
      refine jd_bipush (v := 12) dX4_sleeper_42 (by decide) ?_
      refine jd_ncmp_ne (a := nS κ) (b := 12) (tgt := 53) dX4_sleeper_44 (by decide) (by omega) (by omega) (fun z9 => ?_) (fun z10 => ?_)
      · have hcc11 := (show ¬ 12 ≤ nS κ by omega)
        refine jd_new (fs := [.int (0), .int (0), .int (0), .int (0), .int (0), .int (0), .int (0), .int (0), .int (0)]) in_X10 tyX10_ok q1593 q1594 q109 dX4_sleeper_53 12 rfl rfl (by omega) (by omega) (fun qp hqp => ?_)
        refine jd_dup dX4_sleeper_56 rfl ?_
        refine jd_callN (As := []) (rest := [.ref (qp)]) (ct_X10_init jd_up_s) rfl rfl q1595 q1596 q109 q1597 nX10_init dX4_sleeper_57 rfl rfl (Nat.le_of_ble_eq_true rfl) ⟨(Nat.le_of_ble_eq_true rfl), (Nat.le_of_ble_eq_true rfl), by omega, by omega⟩ (fun rv11 hn11 hq11 => ?_) jd_nox
        obtain ⟨rfl, he11⟩ := hq11
        rw [he11, jd_up_up]
        refine jd_astore (ls' := [_, _, _, _, _]) dX4_sleeper_60 (Nat.le_of_ble_eq_true rfl) rfl rfl ?_
        refine jd_aload dX4_sleeper_62 rfl ?_
        refine jd_iload_n dX4_sleeper_64 rfl ?_
        refine jd_putN (fs' := [_, _, _, _, _, _, _, _, _]) in_X10 tyX10_ok nmX10 jd_up_s 0 q1599 dX4_sleeper_65 rfl (Nat.le_of_ble_eq_true rfl) rfl rfl rfl (Nat.le_of_ble_eq_true rfl) rfl ?_
        rw [jd_up_up]
        refine jd_aload dX4_sleeper_68 rfl ?_
        refine jd_iload_n dX4_sleeper_70 rfl ?_
        refine jd_putN (fs' := [_, _, _, _, _, _, _, _, _]) in_X10 tyX10_ok nmX10 jd_up_s 1 q1600 dX4_sleeper_71 rfl (Nat.le_of_ble_eq_true rfl) rfl (by rcases jd_b01 (b = true) with e | e <;> (rw [e]; rfl)) (by rcases jd_b01 (b = true) with e | e <;> (rw [e]; rfl)) (Nat.le_of_ble_eq_true rfl) rfl ?_
        rw [jd_up_up]
        refine jd_aload dX4_sleeper_74 rfl ?_
        refine jd_iload_n dX4_sleeper_76 rfl ?_
        refine jd_putN (fs' := [_, _, _, _, _, _, _, _, _]) in_X10 tyX10_ok nmX10 jd_up_s 2 q1601 dX4_sleeper_77 rfl (Nat.le_of_ble_eq_true rfl) rfl rfl rfl (Nat.le_of_ble_eq_true rfl) rfl ?_
        rw [jd_up_up]
        refine jd_aload_n dX4_sleeper_80 rfl ?_
        refine jd_get in_X4 (jd_tmp (w_mthis hw1)) 8 q1474 dX4_sleeper_81 rfl (Nat.le_of_ble_eq_true rfl) rfl ?_
        refine jd_aload dX4_sleeper_84 rfl ?_
        refine jd_callV (As := [.ref (qp)]) (rest := []) (ct_J2_add (n := nS κ) (jd_tmp hl8_) (show nS κ ≤ 600 by omega) (Cn := "LullabygateModel$Sleeper") q2022 (fun k hk => obT hqp (Or.inl ⟨_, _, 12, _, (w_msleeper hw1 k hk), rfl, rfl, rfl⟩)) (Or.inl ⟨(0, qp), _, 12, _, jd_up_s, rfl, rfl, rfl⟩)) (jd_rv (jd_tmp hl8_) 15 rfl rfl) rfl q1575 q210 q2000 q83 q212 nJ2_add dX4_sleeper_86 rfl rfl rfl (Nat.le_of_ble_eq_true rfl) ⟨(Nat.le_of_ble_eq_true rfl), (Nat.le_of_ble_eq_true rfl), by omega, by omega⟩ (fun rv12 hn12 hq12 => ?_) jd_nox
        obtain ⟨rfl, he12⟩ := hq12
        rw [he12]
        refine jd_ren (i := (0, qp)) (j := (27, nS κ)) ((jd_up_n (by intro z; cases z)).trans jd_up_s) ((jd_up_n (by intro z; cases z)).trans ((jd_up_n (by intro z; cases z)).trans ((w_mfree hw1 (nS κ)).2.1 (Nat.le_refl _)))) (by simp) ?_
        refine jd_gen (fun h3 => WM G (ll_bu γ 5 (nS κ) qp) (k_addS κ k_l b p) (mu_ns (mu_s μ 0 0 0) (nS κ)) h3 ∧ ∀ j : jd_Id, (j.1 < 20 ∨ 40 ≤ j.1) → h3 j = h1 j) ?_ (fun h3 hw3 => ?_)
        · obtain ⟨a1, a2, a3, a4⟩ := add_ren hqp (li := (22, 2)) (ni := (27, nS κ)) (by decide) (by simp) (by intro z; cases z)
          exact ⟨m_addS hw1 a1 ⟨_, a2⟩ a3, add_frame hqp ⟨by decide, by decide⟩ ⟨by show 20 ≤ 27; decide, by show 27 < 40; decide⟩⟩
        obtain ⟨hw4, hfr⟩ := hw3
        refine jd_pop dX4_sleeper_89 rfl ?_
        refine jd_aload_n dX4_sleeper_90 rfl ?_
        have ff14 := w_mthis hw4
        refine jd_get in_X4 ff14 8 q1474 dX4_sleeper_91 rfl (Nat.le_of_ble_eq_true rfl) rfl ?_
        obtain ⟨mcl15, hl15_⟩ := w_msleepers hw4
        refine jd_pV (As := []) (rest := []) (ct_J2_size hl15_ (show (nS κ + 1) ≤ 900 by omega)) (jd_rv hl15_ 15 rfl rfl) rfl q1533 q344 q1999 q83 q346 nJ2_size dX4_sleeper_94 rfl rfl rfl (Nat.le_of_ble_eq_true rfl) ⟨(Nat.le_of_ble_eq_true rfl), (Nat.le_of_ble_eq_true rfl)⟩ ?_
        refine jd_iconst (v := 1) dX4_sleeper_97 (by decide) ?_
        refine jd_isubN (a := (nS κ + 1)) (b := 1) dX4_sleeper_98 (by omega) ?_
        exact jd_iret dX4_sleeper_99 rfl (jd_mo.ok (γ' := (ll_bu γ 5 (nS κ) qp)) (μ' := (mu_ns (mu_s μ 0 0 0) (nS κ))) (by unfold c_sleeper; (try simp only [hT_l]); rw [if_pos hcc4, if_pos hcc7, if_pos hcc11]) (by first | (simp only [hT_l]; done) | (simp only [hT_l]; rfl) | rfl) rfl (by first | (simp only [hT_l]; exact hw4) | exact hw4) rfl (fun j hj => ((hfr j hj).trans (ho1 j (ll_nel (by decide) hj)))))
      · have hcc16 := (show ¬ ¬ 12 ≤ nS κ by omega)
        refine jd_aload_n dX4_sleeper_47 rfl ?_
        refine jd_iconst (v := 3) dX4_sleeper_48 (by decide) ?_
        refine jd_callV (As := [.int (3)]) (rest := []) (ct_X4_refuse hw1 (3)) (jd_rv (w_mthis hw1) 9 rfl rfl) rfl q1521 q1523 qs50 q90 q1524 nX4_refuse dX4_sleeper_49 rfl rfl rfl (Nat.le_of_ble_eq_true rfl) ⟨(Nat.le_of_ble_eq_true rfl), (Nat.le_of_ble_eq_true rfl), by omega, by omega⟩ (fun rv16 hn16 hq16 => ?_) jd_nox
        obtain ⟨rfl, hw16_, hf16_⟩ := hq16
        exact jd_iret dX4_sleeper_52 rfl (jd_mo.no (γ' := γ) (μ' := (mu_s (mu_s μ 0 0 0) 0 0 3)) (k := 3) (by unfold c_sleeper; (try simp only [hT_l]); rw [if_pos hcc4, if_pos hcc7, if_neg hcc16]) (by decide) rfl hw16_ rfl (fun j hj => ((hf16_ j hj).trans (ho1 j (ll_nel (by decide) hj)))))
    · have hcc18 := z6
      refine jd_aload_n dX4_sleeper_29 rfl ?_
      refine jd_iconst (v := 2) dX4_sleeper_30 (by decide) ?_
      refine jd_callV (As := [.int (2)]) (rest := []) (ct_X4_refuse hw1 (2)) (jd_rv (w_mthis hw1) 9 rfl rfl) rfl q1521 q1523 qs50 q90 q1524 nX4_refuse dX4_sleeper_31 rfl rfl rfl (Nat.le_of_ble_eq_true rfl) ⟨(Nat.le_of_ble_eq_true rfl), (Nat.le_of_ble_eq_true rfl), by omega, by omega⟩ (fun rv18 hn18 hq18 => ?_) jd_nox
      obtain ⟨rfl, hw18_, hf18_⟩ := hq18
      exact jd_iret dX4_sleeper_34 rfl (jd_mo.no (γ' := γ) (μ' := (mu_s (mu_s μ 0 0 0) 0 0 2)) (k := 2) (by unfold c_sleeper; (try simp only [hT_l]); rw [if_pos hcc4, if_neg hcc18]) (by decide) rfl hw18_ rfl (fun j hj => ((hf18_ j hj).trans (ho1 j (ll_nel (by decide) hj)))))
  · have hcc20 := (show ¬ (¬ l < 0 ∧ l < 6) from z3)
    refine jd_aload_n dX4_sleeper_13 rfl ?_
    refine jd_iconst (v := 1) dX4_sleeper_14 (by decide) ?_
    refine jd_callV (As := [.int (1)]) (rest := []) (ct_X4_refuse hw1 (1)) (jd_rv (w_mthis hw1) 9 rfl rfl) rfl q1521 q1523 qs50 q90 q1524 nX4_refuse dX4_sleeper_15 rfl rfl rfl (Nat.le_of_ble_eq_true rfl) ⟨(Nat.le_of_ble_eq_true rfl), (Nat.le_of_ble_eq_true rfl), by omega, by omega⟩ (fun rv20 hn20 hq20 => ?_) jd_nox
    obtain ⟨rfl, hw20_, hf20_⟩ := hq20
    exact jd_iret dX4_sleeper_18 rfl (jd_mo.no (γ' := γ) (μ' := (mu_s (mu_s μ 0 0 0) 0 0 1)) (k := 1) (by unfold c_sleeper; rw [if_neg hcc20]) (by decide) rfl hw20_ rfl (fun j hj => ((hf20_ j hj).trans (ho1 j (ll_nel (by decide) hj)))))

set_option maxRecDepth 20000 in
set_option maxHeartbeats 2000000 in
theorem ct_X4_part {G : jd_G} {γ : ll_B} {κ : ll_K} {μ : ll_U} {h : jd_H} (hw : WM G γ κ μ h) (hI : ll_I κ) (s : Int32) (e : Int32) (w : Int32) (x : Int32) : jd_Ct G mX4_part 11 (2) (60) [.ref (γ 0 0), .int (s), .int (e), .int (w), .int (x)] h (jd_mo G γ κ h (c_part κ s e w x) (.int (nI (nP κ))) (k_addP κ (tN e) w x (tN s))) jd_no := by
  obtain ⟨⟨hG8, hS12, hP24, hH40, hN99, hH24⟩, hIg, hIs, hIp, hIh, hIl, hIq⟩ := id hI
  obtain ⟨mcG, hlG⟩ := w_mgates hw
  obtain ⟨mcS, hlS⟩ := w_msleepers hw
  obtain ⟨mcP, hlP⟩ := w_mparts hw
  obtain ⟨mcH, hlH⟩ := w_mhidings hw
  refine jd_ct (ls := [some (.ref (γ 0 0)), some (.int (s)), some (.int (e)), some (.int (w)), some (.int (x)), none]) rfl rfl (by decide) (Nat.le_of_ble_eq_true rfl) rfl ?_
  refine jd_aload_n dX4_part_0 rfl ?_
  refine jd_iconst (v := 0) dX4_part_1 (by decide) ?_
  refine jd_put (fs' := [_, _, _, _, _, _, _, _, _, _, _, _, _]) in_X4 tyX4_ok nmX4 (w_mthis hw) 0 q1466 dX4_part_2 rfl (Nat.le_of_ble_eq_true rfl) rfl rfl rfl (Nat.le_of_ble_eq_true rfl) rfl ?_
  refine jd_updG (fun h1 hs1 ho1 => ?_)
  have hw1 := m_thrown hw (v := 0) hs1 ho1
  refine jd_aload_n dX4_part_5 rfl ?_
  refine jd_iload_n dX4_part_6 rfl ?_
  refine jd_pV (As := [.int (s)]) (rest := []) (ct_X4_isSleeper hw1 hI (s)) (jd_rv (w_mthis hw1) 9 rfl rfl) rfl q1634 q1636 qs52 q90 q1637 nX4_isSleeper dX4_part_7 rfl rfl rfl (Nat.le_of_ble_eq_true rfl) ⟨(Nat.le_of_ble_eq_true rfl), (Nat.le_of_ble_eq_true rfl)⟩ ?_
  refine jd_bif_ne (tgt := 19) dX4_part_10 (by decide) (fun z2 => ?_) (fun z3 => ?_)
  · have hcc4 := z2
    obtain ⟨k_s, hk_s, rfl⟩ := inN_ex (n := (nS κ)) (by omega) hcc4
    have hT_s := tN_nI (show k_s < 2 ^ 31 by omega)
    refine jd_iload_n dX4_part_19 rfl ?_
    refine jd_iconst (v := 0) dX4_part_20 (by decide) ?_
    refine jd_bipush (v := 7) dX4_part_21 (by decide) ?_
    refine jd_pS (As := [.int (e), .int (0), .int (7)]) (rest := []) (ct_X4_is (e) (0) (7)) rfl q1518 q1519 q90 q1520 nX4_is dX4_part_23 rfl rfl (Nat.le_of_ble_eq_true rfl) ⟨(Nat.le_of_ble_eq_true rfl), (Nat.le_of_ble_eq_true rfl)⟩ ?_
    refine jd_bif_eq (tgt := 50) dX4_part_26 (by decide) (fun z5 => ?_) (fun z6 => ?_)
    · have hcc7 := z5
      refine jd_aload_n dX4_part_50 rfl ?_
      refine jd_iconst (v := 2) dX4_part_51 (by decide) ?_
      refine jd_callV (As := [.int (2)]) (rest := []) (ct_X4_refuse hw1 (2)) (jd_rv (w_mthis hw1) 9 rfl rfl) rfl q1521 q1523 qs50 q90 q1524 nX4_refuse dX4_part_52 rfl rfl rfl (Nat.le_of_ble_eq_true rfl) ⟨(Nat.le_of_ble_eq_true rfl), (Nat.le_of_ble_eq_true rfl), by omega, by omega⟩ (fun rv7 hn7 hq7 => ?_) jd_nox
      obtain ⟨rfl, hw7_, hf7_⟩ := hq7
      exact jd_iret dX4_part_55 rfl (jd_mo.no (γ' := γ) (μ' := (mu_s (mu_s μ 0 0 0) 0 0 2)) (k := 2) (by unfold c_part; (try simp only [hT_s]); rw [if_pos hcc4, if_neg hcc7]) (by decide) rfl hw7_ rfl (fun j hj => ((hf7_ j hj).trans (ho1 j (ll_nel (by decide) hj)))))
    · have hcc9 := z6
      obtain ⟨k_e, hk_e, rfl⟩ := inR_ex (lo := 0) (hi := 7) hcc9 (by omega) (by omega)
      have hT_e := tN_nI (show k_e < 2 ^ 31 by omega)
      refine jd_iload_n dX4_part_29 rfl ?_
      refine jd_iconst (v := 0) dX4_part_30 (by decide) ?_
      refine jd_bipush (v := 99) dX4_part_31 (by decide) ?_
      refine jd_pS (As := [.int (w), .int (0), .int (99)]) (rest := []) (ct_X4_is (w) (0) (99)) rfl q1518 q1519 q90 q1520 nX4_is dX4_part_33 rfl rfl (Nat.le_of_ble_eq_true rfl) ⟨(Nat.le_of_ble_eq_true rfl), (Nat.le_of_ble_eq_true rfl)⟩ ?_
      refine jd_bif_eq (tgt := 50) dX4_part_36 (by decide) (fun z10 => ?_) (fun z11 => ?_)
      · have hcc12 := z10
        refine jd_aload_n dX4_part_50 rfl ?_
        refine jd_iconst (v := 2) dX4_part_51 (by decide) ?_
        refine jd_callV (As := [.int (2)]) (rest := []) (ct_X4_refuse hw1 (2)) (jd_rv (w_mthis hw1) 9 rfl rfl) rfl q1521 q1523 qs50 q90 q1524 nX4_refuse dX4_part_52 rfl rfl rfl (Nat.le_of_ble_eq_true rfl) ⟨(Nat.le_of_ble_eq_true rfl), (Nat.le_of_ble_eq_true rfl), by omega, by omega⟩ (fun rv12 hn12 hq12 => ?_) jd_nox
        obtain ⟨rfl, hw12_, hf12_⟩ := hq12
        exact jd_iret dX4_part_55 rfl (jd_mo.no (γ' := γ) (μ' := (mu_s (mu_s μ 0 0 0) 0 0 2)) (k := 2) (by unfold c_part; (try simp only [hT_s, hT_e]); rw [if_pos hcc4, if_pos hcc9, if_neg hcc12]) (by decide) rfl hw12_ rfl (fun j hj => ((hf12_ j hj).trans (ho1 j (ll_nel (by decide) hj)))))
      · have hcc14 := z11
        refine jd_iload dX4_part_39 rfl ?_
        refine jd_iconst (v := 0) dX4_part_41 (by decide) ?_
        refine jd_bipush (v := 9) dX4_part_42 (by decide) ?_
        refine jd_pS (As := [.int (x), .int (0), .int (9)]) (rest := []) (ct_X4_is (x) (0) (9)) rfl q1518 q1519 q90 q1520 nX4_is dX4_part_44 rfl rfl (Nat.le_of_ble_eq_true rfl) ⟨(Nat.le_of_ble_eq_true rfl), (Nat.le_of_ble_eq_true rfl)⟩ ?_
        refine jd_bif_ne (tgt := 56) dX4_part_47 (by decide) (fun z15 => ?_) (fun z16 => ?_)
        · have hcc17 := z15
          refine jd_aload_n dX4_part_56 rfl ?_
          refine jd_get in_X4 (w_mthis hw1) 9 q1475 dX4_part_57 rfl (Nat.le_of_ble_eq_true rfl) rfl ?_
          have hsX2 := (hIs k_s hk_s).2.1
          obtain ⟨mcl18, hl18_⟩ := w_mparts hw1
          refine jd_pV (As := []) (rest := []) (ct_J2_size hl18_ (show nP κ ≤ 900 by omega)) (jd_rv hl18_ 15 rfl rfl) rfl q1533 q344 q1999 q83 q346 nJ2_size dX4_part_60 rfl rfl rfl (Nat.le_of_ble_eq_true rfl) ⟨(Nat.le_of_ble_eq_true rfl), (Nat.le_of_ble_eq_true rfl)⟩ ?_
          refine jd_bipush (v := 24) dX4_part_63 (by decide) ?_
          refine jd_ncmp_eq (a := nP κ) (b := 24) (tgt := 85) dX4_part_65 (by decide) (by omega) (by omega) (fun z19 => ?_) (fun z20 => ?_)
          · have hcc21 := (show ¬ ¬ 24 ≤ nP κ by omega)
            refine jd_aload_n dX4_part_85 rfl ?_
            refine jd_iconst (v := 3) dX4_part_86 (by decide) ?_
            refine jd_callV (As := [.int (3)]) (rest := []) (ct_X4_refuse hw1 (3)) (jd_rv (w_mthis hw1) 9 rfl rfl) rfl q1521 q1523 qs50 q90 q1524 nX4_refuse dX4_part_87 rfl rfl rfl (Nat.le_of_ble_eq_true rfl) ⟨(Nat.le_of_ble_eq_true rfl), (Nat.le_of_ble_eq_true rfl), by omega, by omega⟩ (fun rv21 hn21 hq21 => ?_) jd_nox
            obtain ⟨rfl, hw21_, hf21_⟩ := hq21
            exact jd_iret dX4_part_90 rfl (jd_mo.no (γ' := γ) (μ' := (mu_s (mu_s μ 0 0 0) 0 0 3)) (k := 3) (by unfold c_part; (try simp only [hT_s, hT_e]); rw [if_pos hcc4, if_pos hcc9, if_pos hcc14, if_pos hcc17, if_neg (fun w => hcc21 w.1)]) (by decide) rfl hw21_ rfl (fun j hj => ((hf21_ j hj).trans (ho1 j (ll_nel (by decide) hj)))))
          · have hcc23 := (show ¬ 24 ≤ nP κ by omega)
            refine jd_aload_n dX4_part_68 rfl ?_
            refine jd_get in_X4 (w_mthis hw1) 8 q1474 dX4_part_69 rfl (Nat.le_of_ble_eq_true rfl) rfl ?_
            refine jd_iload_n dX4_part_72 rfl ?_
            obtain ⟨mcl24, hl24_⟩ := w_msleepers hw1
            refine jd_pV (As := [.int (nI k_s)]) (rest := []) (ct_J2_get hl24_ (show nS κ ≤ 900 by omega) (k := k_s) (show k_s < nS κ by omega)) (jd_rv hl24_ 15 rfl rfl) rfl q1584 q325 q2001 q83 q327 nJ2_get dX4_part_73 rfl rfl rfl (Nat.le_of_ble_eq_true rfl) ⟨(Nat.le_of_ble_eq_true rfl), (Nat.le_of_ble_eq_true rfl)⟩ ?_
            refine jd_castS (jd_rv ((w_msleeper hw1) k_s (show k_s < nS κ by omega)) 12 rfl rfl) (ci := 12) rfl q1593 dX4_part_76 ?_
            refine jd_getN in_X10 ((w_msleeper hw1) k_s (show k_s < nS κ by omega)) 3 q1602 dX4_part_79 rfl (Nat.le_of_ble_eq_true rfl) rfl ?_
            refine jd_nif_eq (a := (sRest κ k_s)) (tgt := 91) dX4_part_82 (by decide) (by omega) (fun z25 => ?_) (fun z26 => ?_)
            · have hcc27 := z25
              refine jd_new (fs := [.int (0), .int (0), .int (0), .int (0), .int (0), .int (0)]) in_X12 tyX12_ok q1638 q1639 q112 dX4_part_91 13 rfl rfl (by omega) (by omega) (fun qp hqp => ?_)
              refine jd_dup dX4_part_94 rfl ?_
              refine jd_callN (As := []) (rest := [.ref (qp)]) (ct_X12_init jd_up_s) rfl rfl q1640 q1641 q112 q1642 nX12_init dX4_part_95 rfl rfl (Nat.le_of_ble_eq_true rfl) ⟨(Nat.le_of_ble_eq_true rfl), (Nat.le_of_ble_eq_true rfl), by omega, by omega⟩ (fun rv27 hn27 hq27 => ?_) jd_nox
              obtain ⟨rfl, he27⟩ := hq27
              rw [he27, jd_up_up]
              refine jd_astore (ls' := [_, _, _, _, _, _]) dX4_part_98 (Nat.le_of_ble_eq_true rfl) rfl rfl ?_
              refine jd_aload dX4_part_100 rfl ?_
              refine jd_iload_n dX4_part_102 rfl ?_
              refine jd_putN (fs' := [_, _, _, _, _, _]) in_X12 tyX12_ok nmX12 jd_up_s 0 q1644 dX4_part_103 rfl (Nat.le_of_ble_eq_true rfl) rfl rfl rfl (Nat.le_of_ble_eq_true rfl) rfl ?_
              rw [jd_up_up]
              refine jd_aload dX4_part_106 rfl ?_
              refine jd_iload_n dX4_part_108 rfl ?_
              refine jd_putN (fs' := [_, _, _, _, _, _]) in_X12 tyX12_ok nmX12 jd_up_s 1 q1645 dX4_part_109 rfl (Nat.le_of_ble_eq_true rfl) rfl rfl rfl (Nat.le_of_ble_eq_true rfl) rfl ?_
              rw [jd_up_up]
              refine jd_aload dX4_part_112 rfl ?_
              refine jd_iload dX4_part_114 rfl ?_
              refine jd_putN (fs' := [_, _, _, _, _, _]) in_X12 tyX12_ok nmX12 jd_up_s 2 q1647 dX4_part_116 rfl (Nat.le_of_ble_eq_true rfl) rfl rfl rfl (Nat.le_of_ble_eq_true rfl) rfl ?_
              rw [jd_up_up]
              refine jd_aload dX4_part_119 rfl ?_
              refine jd_iload_n dX4_part_121 rfl ?_
              refine jd_putN (fs' := [_, _, _, _, _, _]) in_X12 tyX12_ok nmX12 jd_up_s 4 q1649 dX4_part_122 rfl (Nat.le_of_ble_eq_true rfl) rfl rfl rfl (Nat.le_of_ble_eq_true rfl) rfl ?_
              rw [jd_up_up]
              refine jd_aload_n dX4_part_125 rfl ?_
              refine jd_get in_X4 (jd_tmp (w_mthis hw1)) 9 q1475 dX4_part_126 rfl (Nat.le_of_ble_eq_true rfl) rfl ?_
              refine jd_aload dX4_part_129 rfl ?_
              refine jd_callV (As := [.ref (qp)]) (rest := []) (ct_J2_add (n := nP κ) (jd_tmp hl18_) (show nP κ ≤ 600 by omega) (Cn := "LullabygateModel$Part") q2025 (fun k hk => obT hqp (Or.inl ⟨_, _, 13, _, (w_mpart hw1 k hk), rfl, rfl, rfl⟩)) (Or.inl ⟨(0, qp), _, 13, _, jd_up_s, rfl, rfl, rfl⟩)) (jd_rv (jd_tmp hl18_) 15 rfl rfl) rfl q1575 q210 q2000 q83 q212 nJ2_add dX4_part_131 rfl rfl rfl (Nat.le_of_ble_eq_true rfl) ⟨(Nat.le_of_ble_eq_true rfl), (Nat.le_of_ble_eq_true rfl), by omega, by omega⟩ (fun rv28 hn28 hq28 => ?_) jd_nox
              obtain ⟨rfl, he28⟩ := hq28
              rw [he28]
              refine jd_ren (i := (0, qp)) (j := (30, nP κ)) ((jd_up_n (by intro z; cases z)).trans jd_up_s) ((jd_up_n (by intro z; cases z)).trans ((jd_up_n (by intro z; cases z)).trans ((w_mfree hw1 (nP κ)).2.2 (Nat.le_refl _)))) (by simp) ?_
              refine jd_gen (fun h3 => WM G (ll_bu γ 6 (nP κ) qp) (k_addP κ k_e w x k_s) (mu_s μ 0 0 0) h3 ∧ ∀ j : jd_Id, (j.1 < 20 ∨ 40 ≤ j.1) → h3 j = h1 j) ?_ (fun h3 hw3 => ?_)
              · obtain ⟨a1, a2, a3, a4⟩ := add_ren hqp (li := (22, 3)) (ni := (30, nP κ)) (by decide) (by simp) (by intro z; cases z)
                exact ⟨m_addP hw1 a1 ⟨_, a2⟩ a3, add_frame hqp ⟨by decide, by decide⟩ ⟨by show 20 ≤ 30; decide, by show 30 < 40; decide⟩⟩
              obtain ⟨hw4, hfr⟩ := hw3
              refine jd_pop dX4_part_134 rfl ?_
              refine jd_aload_n dX4_part_135 rfl ?_
              have ff30 := w_mthis hw4
              refine jd_get in_X4 ff30 9 q1475 dX4_part_136 rfl (Nat.le_of_ble_eq_true rfl) rfl ?_
              obtain ⟨mcl31, hl31_⟩ := w_mparts hw4
              refine jd_pV (As := []) (rest := []) (ct_J2_size hl31_ (show (nP κ + 1) ≤ 900 by omega)) (jd_rv hl31_ 15 rfl rfl) rfl q1533 q344 q1999 q83 q346 nJ2_size dX4_part_139 rfl rfl rfl (Nat.le_of_ble_eq_true rfl) ⟨(Nat.le_of_ble_eq_true rfl), (Nat.le_of_ble_eq_true rfl)⟩ ?_
              refine jd_iconst (v := 1) dX4_part_142 (by decide) ?_
              refine jd_isubN (a := (nP κ + 1)) (b := 1) dX4_part_143 (by omega) ?_
              exact jd_iret dX4_part_144 rfl (jd_mo.ok (γ' := (ll_bu γ 6 (nP κ) qp)) (μ' := (mu_s μ 0 0 0)) (by unfold c_part; (try simp only [hT_s, hT_e]); rw [if_pos hcc4, if_pos hcc9, if_pos hcc14, if_pos hcc17, if_pos ⟨hcc23, hcc27⟩]) (by first | (simp only [hT_s, hT_e]; done) | (simp only [hT_s, hT_e]; rfl) | rfl) rfl (by first | (simp only [hT_s, hT_e]; exact hw4) | exact hw4) rfl (fun j hj => ((hfr j hj).trans (ho1 j (ll_nel (by decide) hj)))))
            · have hcc32 := z26
              refine jd_aload_n dX4_part_85 rfl ?_
              refine jd_iconst (v := 3) dX4_part_86 (by decide) ?_
              refine jd_callV (As := [.int (3)]) (rest := []) (ct_X4_refuse hw1 (3)) (jd_rv (w_mthis hw1) 9 rfl rfl) rfl q1521 q1523 qs50 q90 q1524 nX4_refuse dX4_part_87 rfl rfl rfl (Nat.le_of_ble_eq_true rfl) ⟨(Nat.le_of_ble_eq_true rfl), (Nat.le_of_ble_eq_true rfl), by omega, by omega⟩ (fun rv32 hn32 hq32 => ?_) jd_nox
              obtain ⟨rfl, hw32_, hf32_⟩ := hq32
              exact jd_iret dX4_part_90 rfl (jd_mo.no (γ' := γ) (μ' := (mu_s (mu_s μ 0 0 0) 0 0 3)) (k := 3) (by unfold c_part; (try simp only [hT_s, hT_e]); rw [if_pos hcc4, if_pos hcc9, if_pos hcc14, if_pos hcc17, if_neg (fun w => hcc32 w.2)]) (by decide) rfl hw32_ rfl (fun j hj => ((hf32_ j hj).trans (ho1 j (ll_nel (by decide) hj)))))
        · have hcc34 := z16
          refine jd_aload_n dX4_part_50 rfl ?_
          refine jd_iconst (v := 2) dX4_part_51 (by decide) ?_
          refine jd_callV (As := [.int (2)]) (rest := []) (ct_X4_refuse hw1 (2)) (jd_rv (w_mthis hw1) 9 rfl rfl) rfl q1521 q1523 qs50 q90 q1524 nX4_refuse dX4_part_52 rfl rfl rfl (Nat.le_of_ble_eq_true rfl) ⟨(Nat.le_of_ble_eq_true rfl), (Nat.le_of_ble_eq_true rfl), by omega, by omega⟩ (fun rv34 hn34 hq34 => ?_) jd_nox
          obtain ⟨rfl, hw34_, hf34_⟩ := hq34
          exact jd_iret dX4_part_55 rfl (jd_mo.no (γ' := γ) (μ' := (mu_s (mu_s μ 0 0 0) 0 0 2)) (k := 2) (by unfold c_part; (try simp only [hT_s, hT_e]); rw [if_pos hcc4, if_pos hcc9, if_pos hcc14, if_neg hcc34]) (by decide) rfl hw34_ rfl (fun j hj => ((hf34_ j hj).trans (ho1 j (ll_nel (by decide) hj)))))
  · have hcc36 := z3
    refine jd_aload_n dX4_part_13 rfl ?_
    refine jd_iconst (v := 1) dX4_part_14 (by decide) ?_
    refine jd_callV (As := [.int (1)]) (rest := []) (ct_X4_refuse hw1 (1)) (jd_rv (w_mthis hw1) 9 rfl rfl) rfl q1521 q1523 qs50 q90 q1524 nX4_refuse dX4_part_15 rfl rfl rfl (Nat.le_of_ble_eq_true rfl) ⟨(Nat.le_of_ble_eq_true rfl), (Nat.le_of_ble_eq_true rfl), by omega, by omega⟩ (fun rv36 hn36 hq36 => ?_) jd_nox
    obtain ⟨rfl, hw36_, hf36_⟩ := hq36
    exact jd_iret dX4_part_18 rfl (jd_mo.no (γ' := γ) (μ' := (mu_s (mu_s μ 0 0 0) 0 0 1)) (k := 1) (by unfold c_part; rw [if_neg hcc36]) (by decide) rfl hw36_ rfl (fun j hj => ((hf36_ j hj).trans (ho1 j (ll_nel (by decide) hj)))))
