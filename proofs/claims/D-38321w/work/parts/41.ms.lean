/-! the model, reading, second (printed by mk_c.py) -/
set_option maxRecDepth 20000 in
set_option maxHeartbeats 2000000 in
theorem ct_X4_ofPartNow {G : jd_G} {γ : ll_B} {κ : ll_K} {μ : ll_U} {h : jd_H} (hw : WM G γ κ μ h) (hI : ll_I κ) (p : Nat) (hp : p < nP κ) (w : Nat) (hw8 : w ≤ 5) : jd_Ct G mX4_ofPartNow 4 (0) (0) [.ref (γ 0 0), .int (nI p), .int (nI w)] h (jd_pu h (.int (partVal κ p w))) jd_no := by
  obtain ⟨⟨hG8, hS12, hP24, hH40, hN99, hH24⟩, hIg, hIs, hIp, hIh, hIl, hIq⟩ := id hI
  obtain ⟨mcG, hlG⟩ := w_mgates hw
  obtain ⟨mcS, hlS⟩ := w_msleepers hw
  obtain ⟨mcP, hlP⟩ := w_mparts hw
  obtain ⟨mcH, hlH⟩ := w_mhidings hw
  refine jd_ct (ls := [some (.ref (γ 0 0)), some (.int (nI p)), some (.int (nI w)), none]) rfl rfl (by decide) (Nat.le_of_ble_eq_true rfl) rfl ?_
  refine jd_aload_n dX4_ofPartNow_0 rfl ?_
  refine jd_get in_X4 (w_mthis hw) 9 q1475 dX4_ofPartNow_1 rfl (Nat.le_of_ble_eq_true rfl) rfl ?_
  refine jd_iload_n dX4_ofPartNow_4 rfl ?_
  refine jd_pV (As := [.int (nI p)]) (rest := []) (ct_J2_get hlP (show nP κ ≤ 900 by omega) (k := p) (show p < nP κ by omega)) (jd_rv hlP 15 rfl rfl) rfl q1584 q325 q2001 q83 q327 nJ2_get dX4_ofPartNow_5 rfl rfl rfl (Nat.le_of_ble_eq_true rfl) ⟨(Nat.le_of_ble_eq_true rfl), (Nat.le_of_ble_eq_true rfl)⟩ ?_
  refine jd_castS (jd_rv ((w_mpart hw) p (show p < nP κ by omega)) 13 rfl rfl) (ci := 13) rfl q1638 dX4_ofPartNow_8 ?_
  refine jd_astore_n (ls' := [_, _, _, _]) dX4_ofPartNow_11 (Nat.le_of_ble_eq_true rfl) rfl rfl ?_
  have hat := at_bd hI hp
  refine jd_iload_n dX4_ofPartNow_12 rfl ?_
  rcases (by omega : w = 0 ∨ w = 1 ∨ w = 2 ∨ w = 3 ∨ w = 4 ∨ w = 5) with e1 | e1 | e1 | e1 | e1 | e1
  · refine jd_tabN (w := w) (j := 0) (off := 35) (tgt := 48) dX4_ofPartNow_13 e1 (by decide) (by decide) (by decide) rfl (by decide) ?_
    refine jd_aload_n dX4_ofPartNow_48 rfl ?_
    refine jd_getN in_X12 ((w_mpart hw) p (show p < nP κ by omega)) 0 q1644 dX4_ofPartNow_49 rfl (Nat.le_of_ble_eq_true rfl) rfl ?_
    exact jd_iret dX4_ofPartNow_52 rfl ⟨by subst e1; rfl, rfl⟩
  · refine jd_tabN (w := w) (j := 1) (off := 40) (tgt := 53) dX4_ofPartNow_13 e1 (by decide) (by decide) (by decide) rfl (by decide) ?_
    refine jd_aload_n dX4_ofPartNow_53 rfl ?_
    refine jd_getN in_X12 ((w_mpart hw) p (show p < nP κ by omega)) 1 q1645 dX4_ofPartNow_54 rfl (Nat.le_of_ble_eq_true rfl) rfl ?_
    exact jd_iret dX4_ofPartNow_57 rfl ⟨by subst e1; rfl, rfl⟩
  · refine jd_tabN (w := w) (j := 2) (off := 45) (tgt := 58) dX4_ofPartNow_13 e1 (by decide) (by decide) (by decide) rfl (by decide) ?_
    refine jd_aload_n dX4_ofPartNow_58 rfl ?_
    refine jd_getN in_X12 ((w_mpart hw) p (show p < nP κ by omega)) 2 q1647 dX4_ofPartNow_59 rfl (Nat.le_of_ble_eq_true rfl) rfl ?_
    exact jd_iret dX4_ofPartNow_62 rfl ⟨by subst e1; rfl, rfl⟩
  · refine jd_tabN (w := w) (j := 3) (off := 50) (tgt := 63) dX4_ofPartNow_13 e1 (by decide) (by decide) (by decide) rfl (by decide) ?_
    refine jd_aload_n dX4_ofPartNow_63 rfl ?_
    refine jd_getN in_X12 ((w_mpart hw) p (show p < nP κ by omega)) 3 q1648 dX4_ofPartNow_64 rfl (Nat.le_of_ble_eq_true rfl) rfl ?_
    exact jd_iret dX4_ofPartNow_67 rfl ⟨by subst e1; rfl, rfl⟩
  · refine jd_tabN (w := w) (j := 4) (off := 55) (tgt := 68) dX4_ofPartNow_13 e1 (by decide) (by decide) (by decide) rfl (by decide) ?_
    refine jd_aload_n dX4_ofPartNow_68 rfl ?_
    refine jd_aload_n dX4_ofPartNow_69 rfl ?_
    refine jd_pV (As := [.ref (γ 6 p)]) (rest := []) (ct_X4_landOf hw hI (p) (by omega)) (jd_rv (w_mthis hw) 9 rfl rfl) rfl q1872 q1874 qs66 q90 q1875 nX4_landOf dX4_ofPartNow_70 rfl rfl rfl (Nat.le_of_ble_eq_true rfl) ⟨(Nat.le_of_ble_eq_true rfl), (Nat.le_of_ble_eq_true rfl)⟩ ?_
    exact jd_iret dX4_ofPartNow_73 rfl ⟨by subst e1; rfl, rfl⟩
  · refine jd_tabD (w := w) (j := 5) (tgt := 74) dX4_ofPartNow_13 e1 (by decide) (by decide) (by decide) ?_
    refine jd_aload_n dX4_ofPartNow_74 rfl ?_
    refine jd_getN in_X12 ((w_mpart hw) p (show p < nP κ by omega)) 4 q1649 dX4_ofPartNow_75 rfl (Nat.le_of_ble_eq_true rfl) rfl ?_
    refine jd_bipush (v := 100) dX4_ofPartNow_78 (by decide) ?_
    refine jd_ncmp_ge (a := (pAt κ p)) (b := 100) (tgt := 90) dX4_ofPartNow_80 (by decide) (by omega) (by omega) (fun z2 => ?_) (fun z3 => ?_)
    · refine jd_iconst (v := (-1)) dX4_ofPartNow_90 (by decide) ?_
      exact jd_iret dX4_ofPartNow_91 rfl ⟨by subst e1; exact congrArg (fun x => some (Value.int x)) (at_no hI hp z2).symm, rfl⟩
    · refine jd_aload_n dX4_ofPartNow_83 rfl ?_
      refine jd_getN in_X12 ((w_mpart hw) p (show p < nP κ by omega)) 4 q1649 dX4_ofPartNow_84 rfl (Nat.le_of_ble_eq_true rfl) rfl ?_
      refine jd_goto (tgt := 91) dX4_ofPartNow_87 (by decide) ?_
      exact jd_iret dX4_ofPartNow_91 rfl ⟨by subst e1; exact congrArg (fun x => some (Value.int x)) (at_yes hI hp (Nat.not_le.mp (Nat.not_le.mpr z3))).symm, rfl⟩

set_option maxRecDepth 20000 in
set_option maxHeartbeats 2000000 in
theorem ct_X4_ofLandNow {G : jd_G} {γ : ll_B} {κ : ll_K} {μ : ll_U} {h : jd_H} (hw : WM G γ κ μ h) (hI : ll_I κ) (l : Nat) (hl : l < 6) (w : Nat) (hw8 : w ≤ 8) : jd_Ct G mX4_ofLandNow 5 (0) (0) [.ref (γ 0 0), .int (nI l), .int (nI w)] h (jd_pu h (.int (landVal κ l w))) jd_no := by
  obtain ⟨⟨hG8, hS12, hP24, hH40, hN99, hH24⟩, hIg, hIs, hIp, hIh, hIl, hIq⟩ := id hI
  obtain ⟨mcG, hlG⟩ := w_mgates hw
  obtain ⟨mcS, hlS⟩ := w_msleepers hw
  obtain ⟨mcP, hlP⟩ := w_mparts hw
  obtain ⟨mcH, hlH⟩ := w_mhidings hw
  refine jd_ct (ls := [some (.ref (γ 0 0)), some (.int (nI l)), some (.int (nI w)), none, none, none]) rfl rfl (by decide) (Nat.le_of_ble_eq_true rfl) rfl ?_
  refine jd_aload_n dX4_ofLandNow_0 rfl ?_
  refine jd_get in_X4 (w_mthis hw) 6 q1472 dX4_ofLandNow_1 rfl (Nat.le_of_ble_eq_true rfl) rfl ?_
  refine jd_iload_n dX4_ofLandNow_4 rfl ?_
  refine jd_aald (y := γ 1 l) (w_mlands hw) dX4_ofLandNow_5 5 rfl (vp_in_nI (by omega) (by omega)) (by rw [nI_clamp (by omega)]) ?_
  refine jd_astore_n (ls' := [_, _, _, _, _, _]) dX4_ofLandNow_6 (Nat.le_of_ble_eq_true rfl) rfl rfl ?_
  refine jd_iconst (v := 0) dX4_ofLandNow_7 (by decide) ?_
  refine jd_istore (ls' := [_, _, _, _, _, _]) dX4_ofLandNow_8 (Nat.le_of_ble_eq_true rfl) rfl rfl ?_
  refine jd_iload_n dX4_ofLandNow_10 rfl ?_
  rcases (by omega : w = 0 ∨ w = 1 ∨ w = 2 ∨ w = 3 ∨ w = 4 ∨ w = 5 ∨ w = 6 ∨ w = 7 ∨ w = 8) with e1 | e1 | e1 | e1 | e1 | e1 | e1 | e1 | e1
  · refine jd_tabN (w := w) (j := 0) (off := 45) (tgt := 56) dX4_ofLandNow_11 e1 (by decide) (by decide) (by decide) rfl (by decide) ?_
    refine jd_aload_n dX4_ofLandNow_56 rfl ?_
    refine jd_getN in_X5 ((w_mland hw) l (show l < 6 by omega)) 0 q1445 dX4_ofLandNow_57 rfl (Nat.le_of_ble_eq_true rfl) rfl ?_
    exact jd_iret dX4_ofLandNow_60 rfl ⟨by subst e1; rfl, rfl⟩
  · refine jd_tabN (w := w) (j := 1) (off := 50) (tgt := 61) dX4_ofLandNow_11 e1 (by decide) (by decide) (by decide) rfl (by decide) ?_
    refine jd_aload_n dX4_ofLandNow_61 rfl ?_
    refine jd_getN in_X5 ((w_mland hw) l (show l < 6 by omega)) 1 q1447 dX4_ofLandNow_62 rfl (Nat.le_of_ble_eq_true rfl) rfl ?_
    exact jd_iret dX4_ofLandNow_65 rfl ⟨by subst e1; rfl, rfl⟩
  · refine jd_tabN (w := w) (j := 2) (off := 55) (tgt := 66) dX4_ofLandNow_11 e1 (by decide) (by decide) (by decide) rfl (by decide) ?_
    refine jd_aload_n dX4_ofLandNow_66 rfl ?_
    refine jd_getN in_X5 ((w_mland hw) l (show l < 6 by omega)) 2 q1449 dX4_ofLandNow_67 rfl (Nat.le_of_ble_eq_true rfl) rfl ?_
    exact jd_iret dX4_ofLandNow_70 rfl ⟨by subst e1; rfl, rfl⟩
  · refine jd_tabN (w := w) (j := 3) (off := 60) (tgt := 71) dX4_ofLandNow_11 e1 (by decide) (by decide) (by decide) rfl (by decide) ?_
    refine jd_aload_n dX4_ofLandNow_71 rfl ?_
    refine jd_getN in_X5 ((w_mland hw) l (show l < 6 by omega)) 3 q1450 dX4_ofLandNow_72 rfl (Nat.le_of_ble_eq_true rfl) rfl ?_
    exact jd_iret dX4_ofLandNow_75 rfl ⟨by subst e1; rfl, rfl⟩
  · refine jd_tabN (w := w) (j := 4) (off := 65) (tgt := 76) dX4_ofLandNow_11 e1 (by decide) (by decide) (by decide) rfl (by decide) ?_
    refine jd_aload_n dX4_ofLandNow_76 rfl ?_
    refine jd_getN in_X5 ((w_mland hw) l (show l < 6 by omega)) 4 q1451 dX4_ofLandNow_77 rfl (Nat.le_of_ble_eq_true rfl) rfl ?_
    exact jd_iret dX4_ofLandNow_80 rfl ⟨by subst e1; rfl, rfl⟩
  · refine jd_tabN (w := w) (j := 5) (off := 70) (tgt := 81) dX4_ofLandNow_11 e1 (by decide) (by decide) (by decide) rfl (by decide) ?_
    refine jd_aload_n dX4_ofLandNow_81 rfl ?_
    refine jd_getN in_X5 ((w_mland hw) l (show l < 6 by omega)) 5 q1452 dX4_ofLandNow_82 rfl (Nat.le_of_ble_eq_true rfl) rfl ?_
    exact jd_iret dX4_ofLandNow_85 rfl ⟨by subst e1; rfl, rfl⟩
  · refine jd_tabN (w := w) (j := 6) (off := 75) (tgt := 86) dX4_ofLandNow_11 e1 (by decide) (by decide) (by decide) rfl (by decide) ?_
    refine jd_iconst (v := 0) dX4_ofLandNow_86 (by decide) ?_
    refine jd_istore (ls' := [_, _, _, _, _, _]) dX4_ofLandNow_87 (Nat.le_of_ble_eq_true rfl) rfl rfl ?_
    have lp89_2 : ∀ (j : Nat) (k : Nat) (hk0 : k + j = nP κ), jd_W G mX4_ofLandNow 5 (0) (0) 89 [some (.ref (γ 0 0)), some (.int (nI l)), some (.int (nI w)), some (.ref (γ 1 l)), some (.int ((ll_cnt (fun p => pAt κ p = 100 + l) k))), some (.int (nI k))] [] h (jd_pu h (.int (landVal κ l w))) jd_no := by
      intro j
      induction j with
      | zero =>
        intro k hk0
        obtain rfl : k = nP κ := by omega
        refine jd_iload dX4_ofLandNow_89 rfl ?_
        refine jd_aload_n dX4_ofLandNow_91 rfl ?_
        refine jd_get in_X4 (w_mthis hw) 9 q1475 dX4_ofLandNow_92 rfl (Nat.le_of_ble_eq_true rfl) rfl ?_
        refine jd_pV (As := []) (rest := [.int (nI (nP κ))]) (ct_J2_size hlP (show nP κ ≤ 900 by omega)) (jd_rv hlP 15 rfl rfl) rfl q1533 q344 q1999 q83 q346 nJ2_size dX4_ofLandNow_95 rfl rfl rfl (Nat.le_of_ble_eq_true rfl) ⟨(Nat.le_of_ble_eq_true rfl), (Nat.le_of_ble_eq_true rfl)⟩ ?_
        refine jd_ncmp_ge (a := nP κ) (b := nP κ) (tgt := 139) dX4_ofLandNow_98 (by decide) (by omega) (by omega) (fun z3 => ?_) (fun z4 => ?_)
        · refine jd_iload dX4_ofLandNow_139 rfl ?_
          exact jd_iret dX4_ofLandNow_141 rfl ⟨by subst e1; exact congrArg (fun x => some (Value.int x)) (storeM hI hl), rfl⟩
        · omega
      | succ j ih89 =>
        intro k hk0
        have hat := at_bd hI (p := k) (by omega)
        refine jd_iload dX4_ofLandNow_89 rfl ?_
        refine jd_aload_n dX4_ofLandNow_91 rfl ?_
        refine jd_get in_X4 (w_mthis hw) 9 q1475 dX4_ofLandNow_92 rfl (Nat.le_of_ble_eq_true rfl) rfl ?_
        refine jd_pV (As := []) (rest := [.int (nI k)]) (ct_J2_size hlP (show nP κ ≤ 900 by omega)) (jd_rv hlP 15 rfl rfl) rfl q1533 q344 q1999 q83 q346 nJ2_size dX4_ofLandNow_95 rfl rfl rfl (Nat.le_of_ble_eq_true rfl) ⟨(Nat.le_of_ble_eq_true rfl), (Nat.le_of_ble_eq_true rfl)⟩ ?_
        refine jd_ncmp_ge (a := k) (b := nP κ) (tgt := 139) dX4_ofLandNow_98 (by decide) (by omega) (by omega) (fun z5 => ?_) (fun z6 => ?_)
        · omega
        · refine jd_iload dX4_ofLandNow_101 rfl ?_
          refine jd_aload_n dX4_ofLandNow_103 rfl ?_
          refine jd_get in_X4 (w_mthis hw) 9 q1475 dX4_ofLandNow_104 rfl (Nat.le_of_ble_eq_true rfl) rfl ?_
          refine jd_iload dX4_ofLandNow_107 rfl ?_
          refine jd_pV (As := [.int (nI k)]) (rest := [.int ((ll_cnt (fun p => pAt κ p = 100 + l) k))]) (ct_J2_get hlP (show nP κ ≤ 900 by omega) (k := k) (show k < nP κ by omega)) (jd_rv hlP 15 rfl rfl) rfl q1584 q325 q2001 q83 q327 nJ2_get dX4_ofLandNow_109 rfl rfl rfl (Nat.le_of_ble_eq_true rfl) ⟨(Nat.le_of_ble_eq_true rfl), (Nat.le_of_ble_eq_true rfl)⟩ ?_
          refine jd_castS (jd_rv ((w_mpart hw) k (show k < nP κ by omega)) 13 rfl rfl) (ci := 13) rfl q1638 dX4_ofLandNow_112 ?_
          refine jd_getN in_X12 ((w_mpart hw) k (show k < nP κ by omega)) 4 q1649 dX4_ofLandNow_115 rfl (Nat.le_of_ble_eq_true rfl) rfl ?_
          refine jd_bipush (v := 100) dX4_ofLandNow_118 (by decide) ?_
          refine jd_iload_n dX4_ofLandNow_120 rfl ?_
          refine jd_iaddN (a := 100) (b := l) dX4_ofLandNow_121 ?_
          refine jd_mg2 130 (.int (jd_b (((pAt κ k) = (100 + l))))) (fun hj7 => ?_) ?_
          · refine jd_ncmp_ne (a := (pAt κ k)) (b := (100 + l)) (tgt := 129) dX4_ofLandNow_122 (by decide) (by omega) (by omega) (fun z8 => ?_) (fun z9 => ?_)
            · refine jd_iconst (v := 0) dX4_ofLandNow_129 (by decide) ?_
              exact jd_top (congrArg Value.int (jd_b0 z8).symm) hj7
            · refine jd_iconst (v := 1) dX4_ofLandNow_125 (by decide) ?_
              refine jd_goto (tgt := 130) dX4_ofLandNow_126 (by decide) ?_
              exact jd_top (congrArg Value.int (jd_b1 z9).symm) hj7
          · refine jd_iadd dX4_ofLandNow_130 ?_
            refine jd_istore (ls' := [_, _, _, _, _, _]) dX4_ofLandNow_131 (Nat.le_of_ble_eq_true rfl) rfl rfl ?_
            refine jd_iincN (n := 1) (ls' := [_, _, _, _, _, _]) dX4_ofLandNow_133 rfl (Nat.le_of_ble_eq_true rfl) rfl rfl ?_
            refine jd_goto (tgt := 89) dX4_ofLandNow_136 (by decide) ?_
            refine jd_lsub [some (.ref (γ 0 0)), some (.int (nI l)), some (.int (nI w)), some (.ref (γ 1 l)), some (.int ((ll_cnt (fun p => pAt κ p = 100 + l) (k + 1)))), some (.int (nI (k + 1)))] ⟨rfl, rfl, rfl, rfl, rfl, rfl, trivial⟩ ?_
            exact ih89 (k + 1) (by omega)
    refine jd_lsub [some (.ref (γ 0 0)), some (.int (nI l)), some (.int (nI w)), some (.ref (γ 1 l)), some (.int ((ll_cnt (fun p => pAt κ p = 100 + l) 0))), some (.int (nI 0))] ⟨rfl, rfl, rfl, rfl, rfl, rfl, trivial⟩ ?_
    exact lp89_2 (nP κ) 0 (by omega)
  · refine jd_tabN (w := w) (j := 7) (off := 131) (tgt := 142) dX4_ofLandNow_11 e1 (by decide) (by decide) (by decide) rfl (by decide) ?_
    refine jd_iconst (v := 0) dX4_ofLandNow_142 (by decide) ?_
    refine jd_istore (ls' := [_, _, _, _, _, _]) dX4_ofLandNow_143 (Nat.le_of_ble_eq_true rfl) rfl rfl ?_
    have lp145_10 : ∀ (j : Nat) (k : Nat) (hk0 : k + j = nS κ), jd_W G mX4_ofLandNow 5 (0) (0) 145 [some (.ref (γ 0 0)), some (.int (nI l)), some (.int (nI w)), some (.ref (γ 1 l)), some (.int ((ll_cnt (fun p => (sLand κ p = l) ∧ (¬ (sRest κ p = 2))) k))), some (.int (nI k))] [] h (jd_pu h (.int (landVal κ l w))) jd_no := by
      intro j
      induction j with
      | zero =>
        intro k hk0
        obtain rfl : k = nS κ := by omega
        refine jd_iload dX4_ofLandNow_145 rfl ?_
        refine jd_aload_n dX4_ofLandNow_147 rfl ?_
        refine jd_get in_X4 (w_mthis hw) 8 q1474 dX4_ofLandNow_148 rfl (Nat.le_of_ble_eq_true rfl) rfl ?_
        refine jd_pV (As := []) (rest := [.int (nI (nS κ))]) (ct_J2_size hlS (show nS κ ≤ 900 by omega)) (jd_rv hlS 15 rfl rfl) rfl q1533 q344 q1999 q83 q346 nJ2_size dX4_ofLandNow_151 rfl rfl rfl (Nat.le_of_ble_eq_true rfl) ⟨(Nat.le_of_ble_eq_true rfl), (Nat.le_of_ble_eq_true rfl)⟩ ?_
        refine jd_ncmp_ge (a := nS κ) (b := nS κ) (tgt := 211) dX4_ofLandNow_154 (by decide) (by omega) (by omega) (fun z11 => ?_) (fun z12 => ?_)
        · refine jd_iload dX4_ofLandNow_211 rfl ?_
          exact jd_iret dX4_ofLandNow_213 rfl ⟨by subst e1; rfl, rfl⟩
        · omega
      | succ j ih145 =>
        intro k hk0
        have hs1 := hIs k (by omega)
        have hs2 := hs1.1
        have hs3 := hs1.2.1
        refine jd_iload dX4_ofLandNow_145 rfl ?_
        refine jd_aload_n dX4_ofLandNow_147 rfl ?_
        refine jd_get in_X4 (w_mthis hw) 8 q1474 dX4_ofLandNow_148 rfl (Nat.le_of_ble_eq_true rfl) rfl ?_
        refine jd_pV (As := []) (rest := [.int (nI k)]) (ct_J2_size hlS (show nS κ ≤ 900 by omega)) (jd_rv hlS 15 rfl rfl) rfl q1533 q344 q1999 q83 q346 nJ2_size dX4_ofLandNow_151 rfl rfl rfl (Nat.le_of_ble_eq_true rfl) ⟨(Nat.le_of_ble_eq_true rfl), (Nat.le_of_ble_eq_true rfl)⟩ ?_
        refine jd_ncmp_ge (a := k) (b := nS κ) (tgt := 211) dX4_ofLandNow_154 (by decide) (by omega) (by omega) (fun z13 => ?_) (fun z14 => ?_)
        · omega
        · refine jd_iload dX4_ofLandNow_157 rfl ?_
          refine jd_aload_n dX4_ofLandNow_159 rfl ?_
          refine jd_get in_X4 (w_mthis hw) 8 q1474 dX4_ofLandNow_160 rfl (Nat.le_of_ble_eq_true rfl) rfl ?_
          refine jd_iload dX4_ofLandNow_163 rfl ?_
          refine jd_pV (As := [.int (nI k)]) (rest := [.int ((ll_cnt (fun p => (sLand κ p = l) ∧ (¬ (sRest κ p = 2))) k))]) (ct_J2_get hlS (show nS κ ≤ 900 by omega) (k := k) (show k < nS κ by omega)) (jd_rv hlS 15 rfl rfl) rfl q1584 q325 q2001 q83 q327 nJ2_get dX4_ofLandNow_165 rfl rfl rfl (Nat.le_of_ble_eq_true rfl) ⟨(Nat.le_of_ble_eq_true rfl), (Nat.le_of_ble_eq_true rfl)⟩ ?_
          refine jd_castS (jd_rv ((w_msleeper hw) k (show k < nS κ by omega)) 12 rfl rfl) (ci := 12) rfl q1593 dX4_ofLandNow_168 ?_
          refine jd_getN in_X10 ((w_msleeper hw) k (show k < nS κ by omega)) 0 q1599 dX4_ofLandNow_171 rfl (Nat.le_of_ble_eq_true rfl) rfl ?_
          refine jd_iload_n dX4_ofLandNow_174 rfl ?_
          refine jd_mg2 202 (.int (jd_b ((((sLand κ k) = l) ∧ (¬ ((sRest κ k) = 2)))))) (fun hj15 => ?_) ?_
          · refine jd_ncmp_ne (a := (sLand κ k)) (b := l) (tgt := 201) dX4_ofLandNow_175 (by decide) (by omega) (by omega) (fun z16 => ?_) (fun z17 => ?_)
            · refine jd_iconst (v := 0) dX4_ofLandNow_201 (by decide) ?_
              exact jd_top (congrArg Value.int (jd_b0 (fun w => z16 w.1)).symm) hj15
            · refine jd_aload_n dX4_ofLandNow_178 rfl ?_
              refine jd_get in_X4 (w_mthis hw) 8 q1474 dX4_ofLandNow_179 rfl (Nat.le_of_ble_eq_true rfl) rfl ?_
              refine jd_iload dX4_ofLandNow_182 rfl ?_
              refine jd_pV (As := [.int (nI k)]) (rest := [.int ((ll_cnt (fun p => (sLand κ p = l) ∧ (¬ (sRest κ p = 2))) k))]) (ct_J2_get hlS (show nS κ ≤ 900 by omega) (k := k) (show k < nS κ by omega)) (jd_rv hlS 15 rfl rfl) rfl q1584 q325 q2001 q83 q327 nJ2_get dX4_ofLandNow_184 rfl rfl rfl (Nat.le_of_ble_eq_true rfl) ⟨(Nat.le_of_ble_eq_true rfl), (Nat.le_of_ble_eq_true rfl)⟩ ?_
              refine jd_castS (jd_rv ((w_msleeper hw) k (show k < nS κ by omega)) 12 rfl rfl) (ci := 12) rfl q1593 dX4_ofLandNow_187 ?_
              refine jd_getN in_X10 ((w_msleeper hw) k (show k < nS κ by omega)) 3 q1602 dX4_ofLandNow_190 rfl (Nat.le_of_ble_eq_true rfl) rfl ?_
              refine jd_iconst (v := 2) dX4_ofLandNow_193 (by decide) ?_
              refine jd_ncmp_eq (a := (sRest κ k)) (b := 2) (tgt := 201) dX4_ofLandNow_194 (by decide) (by omega) (by omega) (fun z18 => ?_) (fun z19 => ?_)
              · refine jd_iconst (v := 0) dX4_ofLandNow_201 (by decide) ?_
                exact jd_top (congrArg Value.int (jd_b0 (fun w => (fun w => w z18) w.2)).symm) hj15
              · refine jd_iconst (v := 1) dX4_ofLandNow_197 (by decide) ?_
                refine jd_goto (tgt := 202) dX4_ofLandNow_198 (by decide) ?_
                exact jd_top (congrArg Value.int (jd_b1 ⟨z17, z19⟩).symm) hj15
          · refine jd_iadd dX4_ofLandNow_202 ?_
            refine jd_istore (ls' := [_, _, _, _, _, _]) dX4_ofLandNow_203 (Nat.le_of_ble_eq_true rfl) rfl rfl ?_
            refine jd_iincN (n := 1) (ls' := [_, _, _, _, _, _]) dX4_ofLandNow_205 rfl (Nat.le_of_ble_eq_true rfl) rfl rfl ?_
            refine jd_goto (tgt := 145) dX4_ofLandNow_208 (by decide) ?_
            refine jd_lsub [some (.ref (γ 0 0)), some (.int (nI l)), some (.int (nI w)), some (.ref (γ 1 l)), some (.int ((ll_cnt (fun p => (sLand κ p = l) ∧ (¬ (sRest κ p = 2))) (k + 1)))), some (.int (nI (k + 1)))] ⟨rfl, rfl, rfl, rfl, rfl, rfl, trivial⟩ ?_
            exact ih145 (k + 1) (by omega)
    refine jd_lsub [some (.ref (γ 0 0)), some (.int (nI l)), some (.int (nI w)), some (.ref (γ 1 l)), some (.int ((ll_cnt (fun p => (sLand κ p = l) ∧ (¬ (sRest κ p = 2))) 0))), some (.int (nI 0))] ⟨rfl, rfl, rfl, rfl, rfl, rfl, trivial⟩ ?_
    exact lp145_10 (nS κ) 0 (by omega)
  · refine jd_tabD (w := w) (j := 8) (tgt := 214) dX4_ofLandNow_11 e1 (by decide) (by decide) (by decide) ?_
    refine jd_aload_n dX4_ofLandNow_214 rfl ?_
    refine jd_iload_n dX4_ofLandNow_215 rfl ?_
    refine jd_pV (As := [.int (nI l)]) (rest := []) (ct_X4_wholes hw hI (l) (by omega)) (jd_rv (w_mthis hw) 9 rfl rfl) rfl q1868 q1870 qs65 q90 q1871 nX4_wholes dX4_ofLandNow_216 rfl rfl rfl (Nat.le_of_ble_eq_true rfl) ⟨(Nat.le_of_ble_eq_true rfl), (Nat.le_of_ble_eq_true rfl)⟩ ?_
    exact jd_iret dX4_ofLandNow_219 rfl ⟨by subst e1; rfl, rfl⟩

set_option maxRecDepth 20000 in
set_option maxHeartbeats 2000000 in
theorem ct_X4_ofGateNow {G : jd_G} {γ : ll_B} {κ : ll_K} {μ : ll_U} {h : jd_H} (hw : WM G γ κ μ h) (hI : ll_I κ) (g : Nat) (hg : g < nG κ) (w : Nat) (hw8 : w ≤ 9) : jd_Ct G mX4_ofGateNow 5 (0) (0) [.ref (γ 0 0), .int (nI g), .int (nI w)] h (jd_pu h (.int (gateVal κ g w))) jd_no := by
  obtain ⟨⟨hG8, hS12, hP24, hH40, hN99, hH24⟩, hIg, hIs, hIp, hIh, hIl, hIq⟩ := id hI
  obtain ⟨mcG, hlG⟩ := w_mgates hw
  obtain ⟨mcS, hlS⟩ := w_msleepers hw
  obtain ⟨mcP, hlP⟩ := w_mparts hw
  obtain ⟨mcH, hlH⟩ := w_mhidings hw
  refine jd_ct (ls := [some (.ref (γ 0 0)), some (.int (nI g)), some (.int (nI w)), none, none, none, none, none, none]) rfl rfl (by decide) (Nat.le_of_ble_eq_true rfl) rfl ?_
  refine jd_aload_n dX4_ofGateNow_0 rfl ?_
  refine jd_get in_X4 (w_mthis hw) 7 q1473 dX4_ofGateNow_1 rfl (Nat.le_of_ble_eq_true rfl) rfl ?_
  refine jd_iload_n dX4_ofGateNow_4 rfl ?_
  refine jd_pV (As := [.int (nI g)]) (rest := []) (ct_J2_get hlG (show nG κ ≤ 900 by omega) (k := g) (show g < nG κ by omega)) (jd_rv hlG 15 rfl rfl) rfl q1584 q325 q2001 q83 q327 nJ2_get dX4_ofGateNow_5 rfl rfl rfl (Nat.le_of_ble_eq_true rfl) ⟨(Nat.le_of_ble_eq_true rfl), (Nat.le_of_ble_eq_true rfl)⟩ ?_
  refine jd_castS (jd_rv ((w_mgate hw) g (show g < nG κ by omega)) 11 rfl rfl) (ci := 11) rfl q1534 dX4_ofGateNow_8 ?_
  have hql := (hIg g hg).2.2.1
  refine jd_astore_n (ls' := [_, _, _, _, _, _, _, _, _]) dX4_ofGateNow_11 (Nat.le_of_ble_eq_true rfl) rfl rfl ?_
  refine jd_iconst (v := 0) dX4_ofGateNow_12 (by decide) ?_
  refine jd_istore (ls' := [_, _, _, _, _, _, _, _, _]) dX4_ofGateNow_13 (Nat.le_of_ble_eq_true rfl) rfl rfl ?_
  refine jd_iload_n dX4_ofGateNow_15 rfl ?_
  rcases (by omega : w = 0 ∨ w = 1 ∨ w = 2 ∨ w = 3 ∨ w = 4 ∨ w = 5 ∨ w = 6 ∨ w = 7 ∨ w = 8 ∨ w = 9) with e1 | e1 | e1 | e1 | e1 | e1 | e1 | e1 | e1 | e1
  · refine jd_tabN (w := w) (j := 0) (off := 52) (tgt := 68) dX4_ofGateNow_16 e1 (by decide) (by decide) (by decide) rfl (by decide) ?_
    refine jd_aload_n dX4_ofGateNow_68 rfl ?_
    refine jd_getN in_X8 ((w_mgate hw) g (show g < nG κ by omega)) 0 q1543 dX4_ofGateNow_69 rfl (Nat.le_of_ble_eq_true rfl) rfl ?_
    exact jd_iret dX4_ofGateNow_72 rfl ⟨by subst e1; rfl, rfl⟩
  · refine jd_tabN (w := w) (j := 1) (off := 57) (tgt := 73) dX4_ofGateNow_16 e1 (by decide) (by decide) (by decide) rfl (by decide) ?_
    refine jd_aload_n dX4_ofGateNow_73 rfl ?_
    refine jd_getN in_X8 ((w_mgate hw) g (show g < nG κ by omega)) 1 q1545 dX4_ofGateNow_74 rfl (Nat.le_of_ble_eq_true rfl) rfl ?_
    exact jd_iret dX4_ofGateNow_77 rfl ⟨by subst e1; rfl, rfl⟩
  · refine jd_tabN (w := w) (j := 2) (off := 62) (tgt := 78) dX4_ofGateNow_16 e1 (by decide) (by decide) (by decide) rfl (by decide) ?_
    refine jd_aload_n dX4_ofGateNow_78 rfl ?_
    refine jd_aload_n dX4_ofGateNow_79 rfl ?_
    refine jd_get in_X4 (w_mthis hw) 2 q1468 dX4_ofGateNow_80 rfl (Nat.le_of_ble_eq_true rfl) rfl ?_
    refine jd_pV (As := [.int (nI ((nHour κ)))]) (rest := []) (ct_X8_isOpen ((w_mgate hw) g (show g < nG κ by omega)) (nI ((nHour κ)))) (jd_rv ((w_mgate hw) g (show g < nG κ by omega)) 11 rfl rfl) rfl q1763 q1764 q1765 q104 q1766 nX8_isOpen dX4_ofGateNow_83 rfl rfl rfl (Nat.le_of_ble_eq_true rfl) ⟨(Nat.le_of_ble_eq_true rfl), (Nat.le_of_ble_eq_true rfl)⟩ ?_
    refine jd_mg1 94 (.int (jd_b (((¬ (((gHours κ g)) ≤ (jd_rem ((((nI ((nHour κ))) + 24) - ((gFrom κ g)))) (24)))))))) (fun hj2 => ?_) ?_
    · refine jd_bif_eq (tgt := 93) dX4_ofGateNow_86 (by decide) (fun z3 => ?_) (fun z4 => ?_)
      · refine jd_iconst (v := 0) dX4_ofGateNow_93 (by decide) ?_
        exact jd_top (congrArg Value.int (jd_b0 z3).symm) hj2
      · refine jd_iconst (v := 1) dX4_ofGateNow_89 (by decide) ?_
        refine jd_goto (tgt := 94) dX4_ofGateNow_90 (by decide) ?_
        exact jd_top (congrArg Value.int (jd_b1 z4).symm) hj2
    · exact jd_iret dX4_ofGateNow_94 rfl ⟨by subst e1; exact congrArg (fun x => some (Value.int x)) (jd_bcong (by rw [open_eq])), rfl⟩
  · refine jd_tabN (w := w) (j := 3) (off := 79) (tgt := 95) dX4_ofGateNow_16 e1 (by decide) (by decide) (by decide) rfl (by decide) ?_
    refine jd_aload_n dX4_ofGateNow_95 rfl ?_
    refine jd_getN in_X8 ((w_mgate hw) g (show g < nG κ by omega)) 4 q1551 dX4_ofGateNow_96 rfl (Nat.le_of_ble_eq_true rfl) rfl ?_
    exact jd_iret dX4_ofGateNow_99 rfl ⟨by subst e1; rfl, rfl⟩
  · refine jd_tabN (w := w) (j := 4) (off := 84) (tgt := 100) dX4_ofGateNow_16 e1 (by decide) (by decide) (by decide) rfl (by decide) ?_
    refine jd_aload_n dX4_ofGateNow_100 rfl ?_
    refine jd_getN in_X8 ((w_mgate hw) g (show g < nG κ by omega)) 5 q1553 dX4_ofGateNow_101 rfl (Nat.le_of_ble_eq_true rfl) rfl ?_
    exact jd_iret dX4_ofGateNow_104 rfl ⟨by subst e1; rfl, rfl⟩
  · refine jd_tabN (w := w) (j := 5) (off := 89) (tgt := 105) dX4_ofGateNow_16 e1 (by decide) (by decide) (by decide) rfl (by decide) ?_
    refine jd_aload_n dX4_ofGateNow_105 rfl ?_
    refine jd_pV (As := []) (rest := []) (ct_X8_dozes ((w_mgate hw) g (show g < nG κ by omega))) (jd_rv ((w_mgate hw) g (show g < nG κ by omega)) 11 rfl rfl) rfl q1773 q1774 q1775 q104 q1776 nX8_dozes dX4_ofGateNow_106 rfl rfl rfl (Nat.le_of_ble_eq_true rfl) ⟨(Nat.le_of_ble_eq_true rfl), (Nat.le_of_ble_eq_true rfl)⟩ ?_
    refine jd_mg1 117 (.int (jd_b (((¬ (((gWatch κ g)) < 5)))))) (fun hj5 => ?_) ?_
    · refine jd_bif_eq (tgt := 116) dX4_ofGateNow_109 (by decide) (fun z6 => ?_) (fun z7 => ?_)
      · refine jd_iconst (v := 0) dX4_ofGateNow_116 (by decide) ?_
        exact jd_top (congrArg Value.int (jd_b0 z6).symm) hj5
      · refine jd_iconst (v := 1) dX4_ofGateNow_112 (by decide) ?_
        refine jd_goto (tgt := 117) dX4_ofGateNow_113 (by decide) ?_
        exact jd_top (congrArg Value.int (jd_b1 z7).symm) hj5
    · exact jd_iret dX4_ofGateNow_117 rfl ⟨by subst e1; rfl, rfl⟩
  · refine jd_tabN (w := w) (j := 6) (off := 102) (tgt := 118) dX4_ofGateNow_16 e1 (by decide) (by decide) (by decide) rfl (by decide) ?_
    refine jd_aload_n dX4_ofGateNow_118 rfl ?_
    refine jd_getN in_X8 ((w_mgate hw) g (show g < nG κ by omega)) 6 q1555 dX4_ofGateNow_119 rfl (Nat.le_of_ble_eq_true rfl) rfl ?_
    obtain ⟨mcq8, hqu8⟩ := w_mqueue hw g (show g < nG κ by omega)
    have hql8 := (hIg g (show g < nG κ by omega)).2.2.1
    refine jd_pV (As := []) (rest := []) (ct_J2_size hqu8 (by omega)) (jd_rv hqu8 15 rfl rfl) rfl q1533 q344 q1999 q83 q346 nJ2_size dX4_ofGateNow_122 rfl rfl rfl (Nat.le_of_ble_eq_true rfl) ⟨(Nat.le_of_ble_eq_true rfl), (Nat.le_of_ble_eq_true rfl)⟩ ?_
    exact jd_iret dX4_ofGateNow_125 rfl ⟨by subst e1; rfl, rfl⟩
  · refine jd_tabN (w := w) (j := 7) (off := 110) (tgt := 126) dX4_ofGateNow_16 e1 (by decide) (by decide) (by decide) rfl (by decide) ?_
    refine jd_aload_n dX4_ofGateNow_126 rfl ?_
    refine jd_getN in_X8 ((w_mgate hw) g (show g < nG κ by omega)) 6 q1555 dX4_ofGateNow_127 rfl (Nat.le_of_ble_eq_true rfl) rfl ?_
    obtain ⟨mcq9, hqu9⟩ := w_mqueue hw g (show g < nG κ by omega)
    have hql9 := (hIg g (show g < nG κ by omega)).2.2.1
    refine jd_pV (As := []) (rest := []) (ct_J2_isEmpty hqu9 (by omega)) (jd_rv hqu9 15 rfl rfl) rfl q1767 q471 q2003 q83 q473 nJ2_isEmpty dX4_ofGateNow_130 rfl rfl rfl (Nat.le_of_ble_eq_true rfl) ⟨(Nat.le_of_ble_eq_true rfl), (Nat.le_of_ble_eq_true rfl)⟩ ?_
    refine jd_bif_eq (tgt := 140) dX4_ofGateNow_133 (by decide) (fun z10 => ?_) (fun z11 => ?_)
    · refine jd_aload_n dX4_ofGateNow_140 rfl ?_
      refine jd_getN in_X8 ((w_mgate hw) g (show g < nG κ by omega)) 6 q1555 dX4_ofGateNow_141 rfl (Nat.le_of_ble_eq_true rfl) rfl ?_
      refine jd_iconst (v := 0) dX4_ofGateNow_144 (by decide) ?_
      have hbx12 := q_lt hI (g := g) (show g < nG κ by omega) (j := 0) (by omega)
      refine jd_pV (As := [.int (0)]) (rest := []) (ct_J2_get hqu9 (by omega) (k := 0) (show 0 < (gQue κ g).length by omega)) (jd_rv hqu9 15 rfl rfl) rfl q1584 q325 q2001 q83 q327 nJ2_get dX4_ofGateNow_145 rfl rfl rfl (Nat.le_of_ble_eq_true rfl) ⟨(Nat.le_of_ble_eq_true rfl), (Nat.le_of_ble_eq_true rfl)⟩ ?_
      refine jd_castS (jd_rvB (k := (qAt κ g 0) + 128) (by omega)) (ci := 20) rfl q1696 dX4_ofGateNow_148 ?_
      refine jd_pV (As := []) (rest := []) (ct_J19_intValue (v := qAt κ g 0) (by omega)) (jd_rvB (k := (qAt κ g 0) + 128) (by omega)) rfl q1697 q1698 q1699 q115 q1700 nJ19_intValue dX4_ofGateNow_151 rfl rfl rfl (Nat.le_of_ble_eq_true rfl) ⟨(Nat.le_of_ble_eq_true rfl), (Nat.le_of_ble_eq_true rfl)⟩ ?_
      exact jd_iret dX4_ofGateNow_154 rfl ⟨by subst e1; exact congrArg (fun x => some (Value.int x)) (if_neg z10 : gateVal κ g 7 = _).symm, rfl⟩
    · refine jd_iconst (v := (-1)) dX4_ofGateNow_136 (by decide) ?_
      refine jd_goto (tgt := 154) dX4_ofGateNow_137 (by decide) ?_
      exact jd_iret dX4_ofGateNow_154 rfl ⟨by subst e1; exact congrArg (fun x => some (Value.int x)) (if_pos z11 : gateVal κ g 7 = _).symm, rfl⟩
  · refine jd_tabN (w := w) (j := 8) (off := 139) (tgt := 155) dX4_ofGateNow_16 e1 (by decide) (by decide) (by decide) rfl (by decide) ?_
    refine jd_aload_n dX4_ofGateNow_155 rfl ?_
    refine jd_aload_n dX4_ofGateNow_156 rfl ?_
    refine jd_pV (As := [.ref (γ 2 g)]) (rest := []) (ct_X4_hiddenWorth hw hI (g) (by omega)) (jd_rv (w_mthis hw) 9 rfl rfl) rfl q1884 q1886 qs68 q90 q1887 nX4_hiddenWorth dX4_ofGateNow_157 rfl rfl rfl (Nat.le_of_ble_eq_true rfl) ⟨(Nat.le_of_ble_eq_true rfl), (Nat.le_of_ble_eq_true rfl)⟩ ?_
    exact jd_iret dX4_ofGateNow_160 rfl ⟨by subst e1; rfl, rfl⟩
  · refine jd_tabD (w := w) (j := 9) (tgt := 161) dX4_ofGateNow_16 e1 (by decide) (by decide) (by decide) ?_
    refine jd_aload_n dX4_ofGateNow_161 rfl ?_
    refine jd_getN in_X8 ((w_mgate hw) g (show g < nG κ by omega)) 7 q1557 dX4_ofGateNow_162 rfl (Nat.le_of_ble_eq_true rfl) rfl ?_
    refine jd_astore (ls' := [_, _, _, _, _, _, _, _, _]) dX4_ofGateNow_165 (Nat.le_of_ble_eq_true rfl) rfl rfl ?_
    refine jd_aload dX4_ofGateNow_167 rfl ?_
    refine jd_alen ((w_mrev hw) g (show g < nG κ by omega)) dX4_ofGateNow_169 1 rfl ?_
    refine jd_istore (ls' := [_, _, _, _, _, _, _, _, _]) dX4_ofGateNow_170 (Nat.le_of_ble_eq_true rfl) rfl rfl ?_
    refine jd_iconst (v := 0) dX4_ofGateNow_172 (by decide) ?_
    refine jd_istore (ls' := [_, _, _, _, _, _, _, _, _]) dX4_ofGateNow_173 (Nat.le_of_ble_eq_true rfl) rfl rfl ?_
    have lp175_13 : ∀ (j : Nat) (k : Nat) (hk0 : k + j = 97), jd_W G mX4_ofGateNow 5 (0) (0) 175 [some (.ref (γ 0 0)), some (.int (nI g)), some (.int (nI w)), some (.ref (γ 2 g)), some (.int ((ll_cnt (fun p => gRev κ g p = true) k))), some (.ref (γ 4 g)), some (.int (nI 97)), some (.int (nI k)), none] [] h (jd_pu h (.int (gateVal κ g w))) jd_no := by
      intro j
      induction j with
      | zero =>
        intro k hk0
        obtain rfl : k = 97 := by omega
        refine jd_iload dX4_ofGateNow_175 rfl ?_
        refine jd_iload dX4_ofGateNow_177 rfl ?_
        refine jd_ncmp_ge (a := 97) (b := 97) (tgt := 210) dX4_ofGateNow_179 (by decide) (by omega) (by omega) (fun z14 => ?_) (fun z15 => ?_)
        · refine jd_iload dX4_ofGateNow_210 rfl ?_
          exact jd_iret dX4_ofGateNow_212 rfl ⟨by subst e1; rfl, rfl⟩
        · omega
      | succ j ih175 =>
        intro k hk0
        refine jd_iload dX4_ofGateNow_175 rfl ?_
        refine jd_iload dX4_ofGateNow_177 rfl ?_
        refine jd_ncmp_ge (a := k) (b := 97) (tgt := 210) dX4_ofGateNow_179 (by decide) (by omega) (by omega) (fun z16 => ?_) (fun z17 => ?_)
        · omega
        · refine jd_aload dX4_ofGateNow_182 rfl ?_
          refine jd_iload dX4_ofGateNow_184 rfl ?_
          refine jd_zald ((w_mrev hw) g (show g < nG κ by omega)) dX4_ofGateNow_186 (vp_in_nI (by omega) (by omega)) ?_
          refine jd_top (w := .int (jd_b (gRev κ g k = true))) (by rw [nI_clamp (by omega)]) ?_
          refine jd_istore (ls' := [_, _, _, _, _, _, _, _, _]) dX4_ofGateNow_187 (Nat.le_of_ble_eq_true rfl) rfl rfl ?_
          refine jd_iload dX4_ofGateNow_189 rfl ?_
          refine jd_iload dX4_ofGateNow_191 rfl ?_
          refine jd_mg1 201 (.int (jd_b ((gRev κ g k = true)))) (fun hj18 => ?_) ?_
          · refine jd_bif_eq (tgt := 200) dX4_ofGateNow_193 (by decide) (fun z19 => ?_) (fun z20 => ?_)
            · refine jd_iconst (v := 0) dX4_ofGateNow_200 (by decide) ?_
              exact jd_top (congrArg Value.int (jd_b0 z19).symm) hj18
            · refine jd_iconst (v := 1) dX4_ofGateNow_196 (by decide) ?_
              refine jd_goto (tgt := 201) dX4_ofGateNow_197 (by decide) ?_
              exact jd_top (congrArg Value.int (jd_b1 z20).symm) hj18
          · refine jd_iadd dX4_ofGateNow_201 ?_
            refine jd_istore (ls' := [_, _, _, _, _, _, _, _, _]) dX4_ofGateNow_202 (Nat.le_of_ble_eq_true rfl) rfl rfl ?_
            refine jd_iincN (n := 1) (ls' := [_, _, _, _, _, _, _, _, _]) dX4_ofGateNow_204 rfl (Nat.le_of_ble_eq_true rfl) rfl rfl ?_
            refine jd_goto (tgt := 175) dX4_ofGateNow_207 (by decide) ?_
            refine jd_lsub [some (.ref (γ 0 0)), some (.int (nI g)), some (.int (nI w)), some (.ref (γ 2 g)), some (.int ((ll_cnt (fun p => gRev κ g p = true) (k + 1)))), some (.ref (γ 4 g)), some (.int (nI 97)), some (.int (nI (k + 1))), none] ⟨rfl, rfl, rfl, rfl, rfl, rfl, rfl, rfl, trivial⟩ ?_
            exact ih175 (k + 1) (by omega)
    refine jd_lsub [some (.ref (γ 0 0)), some (.int (nI g)), some (.int (nI w)), some (.ref (γ 2 g)), some (.int ((ll_cnt (fun p => gRev κ g p = true) 0))), some (.ref (γ 4 g)), some (.int (nI 97)), some (.int (nI 0)), none] ⟨rfl, rfl, rfl, rfl, rfl, rfl, rfl, rfl, trivial⟩ ?_
    exact lp175_13 (97) 0 (by omega)

set_option maxRecDepth 20000 in
set_option maxHeartbeats 2000000 in
theorem ct_X4_isGoodNow {G : jd_G} {γ : ll_B} {κ : ll_K} {μ : ll_U} {h : jd_H} (hw : WM G γ κ μ h) (hI : ll_I κ) (s g : Nat) (hs : s < nS κ) (hg : g < nG κ) : jd_Ct G mX4_isGoodNow 3 (0) (0) [.ref (γ 0 0), .int (nI s), .int (nI g)] h (jd_pu h (.int (jd_b (goodNow κ s g)))) jd_no := by
  obtain ⟨⟨hG8, hS12, hP24, hH40, hN99, hH24⟩, hIg, hIs, hIp, hIh, hIl, hIq⟩ := id hI
  obtain ⟨mcG, hlG⟩ := w_mgates hw
  obtain ⟨mcS, hlS⟩ := w_msleepers hw
  obtain ⟨mcP, hlP⟩ := w_mparts hw
  obtain ⟨mcH, hlH⟩ := w_mhidings hw
  refine jd_ct (ls := [some (.ref (γ 0 0)), some (.int (nI s)), some (.int (nI g)), none, none, none]) rfl rfl (by decide) (Nat.le_of_ble_eq_true rfl) rfl ?_
  refine jd_aload_n dX4_isGoodNow_0 rfl ?_
  refine jd_get in_X4 (w_mthis hw) 8 q1474 dX4_isGoodNow_1 rfl (Nat.le_of_ble_eq_true rfl) rfl ?_
  refine jd_iload_n dX4_isGoodNow_4 rfl ?_
  refine jd_pV (As := [.int (nI s)]) (rest := []) (ct_J2_get hlS (show nS κ ≤ 900 by omega) (k := s) (show s < nS κ by omega)) (jd_rv hlS 15 rfl rfl) rfl q1584 q325 q2001 q83 q327 nJ2_get dX4_isGoodNow_5 rfl rfl rfl (Nat.le_of_ble_eq_true rfl) ⟨(Nat.le_of_ble_eq_true rfl), (Nat.le_of_ble_eq_true rfl)⟩ ?_
  refine jd_castS (jd_rv ((w_msleeper hw) s (show s < nS κ by omega)) 12 rfl rfl) (ci := 12) rfl q1593 dX4_isGoodNow_8 ?_
  refine jd_astore_n (ls' := [_, _, _, _, _, _]) dX4_isGoodNow_11 (Nat.le_of_ble_eq_true rfl) rfl rfl ?_
  refine jd_aload_n dX4_isGoodNow_12 rfl ?_
  refine jd_getN in_X10 ((w_msleeper hw) s (show s < nS κ by omega)) 8 q1610 dX4_isGoodNow_13 rfl (Nat.le_of_ble_eq_true rfl) rfl ?_
  refine jd_iconst (v := (-1)) dX4_isGoodNow_16 (by decide) ?_
  refine jd_icmp_eq (tgt := 39) dX4_isGoodNow_17 (by decide) (fun z1 => ?_) (fun z2 => ?_)
  · have hno := (oV_m1 (fun q hq => ((hIs s hs).2.2.2.2.2.2.2.2.1 q hq).2.2)).mp z1
    refine jd_iconst (v := 0) dX4_isGoodNow_39 (by decide) ?_
    exact jd_zret dX4_isGoodNow_40 rfl (Or.inl rfl) ⟨congrArg (fun x => some (Value.int x)) (jd_b0 (fun w => by have w1 := w.1; rw [hno] at w1; cases w1)).symm, rfl⟩
  · obtain ⟨q, hq⟩ := Option.ne_none_iff_exists'.mp (fun e => z2 ((oV_m1 (fun q hq => ((hIs s hs).2.2.2.2.2.2.2.2.1 q hq).2.2)).mpr e))
    have hqb := (hIs s hs).2.2.2.2.2.2.2.2.1 q hq
    have hq2 := w_mpass hw s hs q hq
    refine jd_aload_n dX4_isGoodNow_20 rfl ?_
    refine jd_getN in_X10 ((w_msleeper hw) s (show s < nS κ by omega)) 6 q1607 dX4_isGoodNow_21 rfl (Nat.le_of_ble_eq_true rfl) rfl ?_
    refine jd_top (w := .int (nI (q.1))) (congrArg Value.int (hq2.1)) ?_
    refine jd_iload_n dX4_isGoodNow_24 rfl ?_
    refine jd_ncmp_ne (a := q.1) (b := g) (tgt := 39) dX4_isGoodNow_25 (by decide) (by omega) (by omega) (fun z3 => ?_) (fun z4 => ?_)
    · refine jd_iconst (v := 0) dX4_isGoodNow_39 (by decide) ?_
      exact jd_zret dX4_isGoodNow_40 rfl (Or.inl rfl) ⟨congrArg (fun x => some (Value.int x)) (jd_b0 (good_no hq (fun w => z3 w.1))).symm, rfl⟩
    · refine jd_aload_n dX4_isGoodNow_28 rfl ?_
      refine jd_getN in_X10 ((w_msleeper hw) s (show s < nS κ by omega)) 7 q1608 dX4_isGoodNow_29 rfl (Nat.le_of_ble_eq_true rfl) rfl ?_
      refine jd_top (w := .int (nI (q.2.1))) (congrArg Value.int (hq2.2)) ?_
      refine jd_aload_n dX4_isGoodNow_32 rfl ?_
      refine jd_get in_X4 (w_mthis hw) 1 q1467 dX4_isGoodNow_33 rfl (Nat.le_of_ble_eq_true rfl) rfl ?_
      refine jd_ncmp_eq (a := q.2.1) (b := (nNight κ)) (tgt := 41) dX4_isGoodNow_36 (by decide) (by omega) (by omega) (fun z5 => ?_) (fun z6 => ?_)
      · refine jd_aload_n dX4_isGoodNow_41 rfl ?_
        refine jd_get in_X4 (w_mthis hw) 7 q1473 dX4_isGoodNow_42 rfl (Nat.le_of_ble_eq_true rfl) rfl ?_
        refine jd_iload_n dX4_isGoodNow_45 rfl ?_
        refine jd_pV (As := [.int (nI g)]) (rest := []) (ct_J2_get hlG (show nG κ ≤ 900 by omega) (k := g) (show g < nG κ by omega)) (jd_rv hlG 15 rfl rfl) rfl q1584 q325 q2001 q83 q327 nJ2_get dX4_isGoodNow_46 rfl rfl rfl (Nat.le_of_ble_eq_true rfl) ⟨(Nat.le_of_ble_eq_true rfl), (Nat.le_of_ble_eq_true rfl)⟩ ?_
        refine jd_castS (jd_rv ((w_mgate hw) g (show g < nG κ by omega)) 11 rfl rfl) (ci := 11) rfl q1534 dX4_isGoodNow_49 ?_
        refine jd_astore (ls' := [_, _, _, _, _, _]) dX4_isGoodNow_52 (Nat.le_of_ble_eq_true rfl) rfl rfl ?_
        refine jd_aload_n dX4_isGoodNow_54 rfl ?_
        refine jd_getN in_X10 ((w_msleeper hw) s (show s < nS κ by omega)) 8 q1610 dX4_isGoodNow_55 rfl (Nat.le_of_ble_eq_true rfl) rfl ?_
        refine jd_top (w := .int (nI (q.2.2))) (congrArg Value.int (by rw [hq]; rfl)) ?_
        refine jd_iload_n dX4_isGoodNow_58 rfl ?_
        refine jd_iload_n dX4_isGoodNow_59 rfl ?_
        refine jd_aload_n dX4_isGoodNow_60 rfl ?_
        refine jd_get in_X4 (w_mthis hw) 1 q1467 dX4_isGoodNow_61 rfl (Nat.le_of_ble_eq_true rfl) rfl ?_
        refine jd_pS (As := [.int (nI s), .int (nI g), .int (nI ((nNight κ)))]) (rest := [.int (nI (q.2.2))]) (ct_X4_right (nI s) (nI g) (nI ((nNight κ)))) rfl q1677 q1678 q90 q1679 nX4_right dX4_isGoodNow_64 rfl rfl (Nat.le_of_ble_eq_true rfl) ⟨(Nat.le_of_ble_eq_true rfl), (Nat.le_of_ble_eq_true rfl)⟩ ?_
        refine jd_isub dX4_isGoodNow_67 ?_
        refine jd_mabs q1772 q511 q87 q512 dX4_isGoodNow_68 (Nat.le_of_ble_eq_true rfl) (Nat.le_of_ble_eq_true rfl) ?_
        refine jd_istore (ls' := [_, _, _, _, _, _]) dX4_isGoodNow_71 (Nat.le_of_ble_eq_true rfl) rfl rfl ?_
        refine jd_aload dX4_isGoodNow_73 rfl ?_
        refine jd_pV (As := []) (rest := []) (ct_X8_dozes ((w_mgate hw) g (show g < nG κ by omega))) (jd_rv ((w_mgate hw) g (show g < nG κ by omega)) 11 rfl rfl) rfl q1773 q1774 q1775 q104 q1776 nX8_dozes dX4_isGoodNow_75 rfl rfl rfl (Nat.le_of_ble_eq_true rfl) ⟨(Nat.le_of_ble_eq_true rfl), (Nat.le_of_ble_eq_true rfl)⟩ ?_
        refine jd_mg1 118 (.int (jd_b (((((¬ (((gWatch κ g)) < 5))) ∧ (¬ (1 < (if 0 ≤ (nI (q.2.2) - (jd_rem (((13 * nI s) + (29 * nI g)) + (7 * nI ((nNight κ)))) 97)) then (nI (q.2.2) - (jd_rem (((13 * nI s) + (29 * nI g)) + (7 * nI ((nNight κ)))) 97)) else (0 - (nI (q.2.2) - (jd_rem (((13 * nI s) + (29 * nI g)) + (7 * nI ((nNight κ)))) 97))))))) ∨ (¬ ((¬ (((gWatch κ g)) < 5))) ∧ (((if 0 ≤ (nI (q.2.2) - (jd_rem (((13 * nI s) + (29 * nI g)) + (7 * nI ((nNight κ)))) 97)) then (nI (q.2.2) - (jd_rem (((13 * nI s) + (29 * nI g)) + (7 * nI ((nNight κ)))) 97)) else (0 - (nI (q.2.2) - (jd_rem (((13 * nI s) + (29 * nI g)) + (7 * nI ((nNight κ)))) 97)))) = 0) ∧ (¬ (gRev κ g (q.2.2) = true)))))))) (fun hj7 => ?_) ?_
        · refine jd_bif_eq (tgt := 95) dX4_isGoodNow_78 (by decide) (fun z8 => ?_) (fun z9 => ?_)
          · refine jd_iload dX4_isGoodNow_95 rfl ?_
            refine jd_if_ne (tgt := 117) dX4_isGoodNow_97 (by decide) (fun z10 => ?_) (fun z11 => ?_)
            · refine jd_iconst (v := 0) dX4_isGoodNow_117 (by decide) ?_
              exact jd_top (congrArg Value.int (jd_b0 (fun w => w.elim (fun w1 => z8 w1.1) (fun w1 => (fun w => z10 w.1) w1.2))).symm) hj7
            · refine jd_aload dX4_isGoodNow_100 rfl ?_
              refine jd_getN in_X8 ((w_mgate hw) g (show g < nG κ by omega)) 7 q1557 dX4_isGoodNow_102 rfl (Nat.le_of_ble_eq_true rfl) rfl ?_
              refine jd_aload_n dX4_isGoodNow_105 rfl ?_
              refine jd_getN in_X10 ((w_msleeper hw) s (show s < nS κ by omega)) 8 q1610 dX4_isGoodNow_106 rfl (Nat.le_of_ble_eq_true rfl) rfl ?_
              refine jd_top (w := .int (nI (q.2.2))) (congrArg Value.int (by rw [hq]; rfl)) ?_
              refine jd_zald ((w_mrev hw) g (show g < nG κ by omega)) dX4_isGoodNow_109 (vp_in_nI (by omega) (by omega)) ?_
              refine jd_top (w := .int (jd_b (gRev κ g (q.2.2) = true))) (by rw [nI_clamp (by omega)]) ?_
              refine jd_bif_ne (tgt := 117) dX4_isGoodNow_110 (by decide) (fun z12 => ?_) (fun z13 => ?_)
              · refine jd_iconst (v := 0) dX4_isGoodNow_117 (by decide) ?_
                exact jd_top (congrArg Value.int (jd_b0 (fun w => w.elim (fun w1 => z8 w1.1) (fun w1 => (fun w => (fun w => w z12) w.2) w1.2))).symm) hj7
              · refine jd_iconst (v := 1) dX4_isGoodNow_113 (by decide) ?_
                refine jd_goto (tgt := 118) dX4_isGoodNow_114 (by decide) ?_
                exact jd_top (congrArg Value.int (jd_b1 (Or.inr ⟨z8, ⟨z11, z13⟩⟩)).symm) hj7
          · refine jd_iload dX4_isGoodNow_81 rfl ?_
            refine jd_iconst (v := 1) dX4_isGoodNow_83 (by decide) ?_
            refine jd_icmp_gt (tgt := 91) dX4_isGoodNow_84 (by decide) (fun z14 => ?_) (fun z15 => ?_)
            · refine jd_iconst (v := 0) dX4_isGoodNow_91 (by decide) ?_
              refine jd_goto (tgt := 118) dX4_isGoodNow_92 (by decide) ?_
              exact jd_top (congrArg Value.int (jd_b0 (fun w => w.elim (fun w1 => (fun w => w z14) w1.2) (fun w1 => w1.1 z9))).symm) hj7
            · refine jd_iconst (v := 1) dX4_isGoodNow_87 (by decide) ?_
              refine jd_goto (tgt := 118) dX4_isGoodNow_88 (by decide) ?_
              exact jd_top (congrArg Value.int (jd_b1 (Or.inl ⟨z9, z15⟩)).symm) hj7
        · exact jd_zret dX4_isGoodNow_118 rfl (jd_b01 _) ⟨congrArg (fun x => some (Value.int x)) (jd_bcong (good_q hq z4 z5).symm), rfl⟩
      · refine jd_iconst (v := 0) dX4_isGoodNow_39 (by decide) ?_
        exact jd_zret dX4_isGoodNow_40 rfl (Or.inl rfl) ⟨congrArg (fun x => some (Value.int x)) (jd_b0 (good_no hq (fun w => z6 w.2))).symm, rfl⟩

set_option maxRecDepth 20000 in
set_option maxHeartbeats 2000000 in
theorem ct_X4_comeIn_f {G : jd_G} {γ : ll_B} {κ : ll_K} {μ : ll_U} {h : jd_H} (hw : WM G γ κ μ h) (hI : ll_I κ) (s l : Nat) (hs : s < nS κ) (hl : l < 6) (hr1 : sRest κ s = 1) (hD : ∀ p, p < nP κ → ll_has (sDecl κ s) p → pHead κ p = some s) : jd_Ct G mX4_comeIn 3 (0) (0) [.ref (γ 0 0), .int (nI s), .int (nI l), .int (0)] h (jd_pu h (.int (worthOf κ (allowed κ (sDecl κ s) l)))) jd_no := by
  obtain ⟨⟨hG8, hS12, hP24, hH40, hN99, hH24⟩, hIg, hIs, hIp, hIh, hIl, hIq⟩ := id hI
  obtain ⟨mcG, hlG⟩ := w_mgates hw
  obtain ⟨mcS, hlS⟩ := w_msleepers hw
  obtain ⟨mcP, hlP⟩ := w_mparts hw
  obtain ⟨mcH, hlH⟩ := w_mhidings hw
  refine jd_ct (ls := [some (.ref (γ 0 0)), some (.int (nI s)), some (.int (nI l)), some (.int (0)), none, none, none, none, none, none, none]) rfl rfl (by decide) (Nat.le_of_ble_eq_true rfl) rfl ?_
  refine jd_aload_n dX4_comeIn_0 rfl ?_
  refine jd_get in_X4 (w_mthis hw) 8 q1474 dX4_comeIn_1 rfl (Nat.le_of_ble_eq_true rfl) rfl ?_
  refine jd_iload_n dX4_comeIn_4 rfl ?_
  refine jd_pV (As := [.int (nI s)]) (rest := []) (ct_J2_get hlS (show nS κ ≤ 900 by omega) (k := s) (show s < nS κ by omega)) (jd_rv hlS 15 rfl rfl) rfl q1584 q325 q2001 q83 q327 nJ2_get dX4_comeIn_5 rfl rfl rfl (Nat.le_of_ble_eq_true rfl) ⟨(Nat.le_of_ble_eq_true rfl), (Nat.le_of_ble_eq_true rfl)⟩ ?_
  refine jd_castS (jd_rv ((w_msleeper hw) s (show s < nS κ by omega)) 12 rfl rfl) (ci := 12) rfl q1593 dX4_comeIn_8 ?_
  refine jd_astore (ls' := [_, _, _, _, _, _, _, _, _, _, _]) dX4_comeIn_11 (Nat.le_of_ble_eq_true rfl) rfl rfl ?_
  refine jd_aload_n dX4_comeIn_13 rfl ?_
  refine jd_get in_X4 (w_mthis hw) 6 q1472 dX4_comeIn_14 rfl (Nat.le_of_ble_eq_true rfl) rfl ?_
  refine jd_iload_n dX4_comeIn_17 rfl ?_
  refine jd_aald (y := γ 1 l) (w_mlands hw) dX4_comeIn_18 5 rfl (vp_in_nI (by omega) (by omega)) (by rw [nI_clamp (by omega)]) ?_
  refine jd_astore (ls' := [_, _, _, _, _, _, _, _, _, _, _]) dX4_comeIn_19 (Nat.le_of_ble_eq_true rfl) rfl rfl ?_
  refine jd_aload dX4_comeIn_21 rfl ?_
  refine jd_getN in_X5 ((w_mland hw) l (show l < 6 by omega)) 3 q1450 dX4_comeIn_23 rfl (Nat.le_of_ble_eq_true rfl) rfl ?_
  refine jd_istore (ls' := [_, _, _, _, _, _, _, _, _, _, _]) dX4_comeIn_26 (Nat.le_of_ble_eq_true rfl) rfl rfl ?_
  refine jd_iconst (v := 0) dX4_comeIn_28 (by decide) ?_
  refine jd_istore (ls' := [_, _, _, _, _, _, _, _, _, _, _]) dX4_comeIn_29 (Nat.le_of_ble_eq_true rfl) rfl rfl ?_
  refine jd_iconst (v := 0) dX4_comeIn_31 (by decide) ?_
  refine jd_istore (ls' := [_, _, _, _, _, _, _, _, _, _, _]) dX4_comeIn_32 (Nat.le_of_ble_eq_true rfl) rfl rfl ?_
  have lp34_1 : ∀ (j : Nat) (k : Nat) (hk0 : k + j = nP κ), jd_W G mX4_comeIn 3 (0) (0) 34 [some (.ref (γ 0 0)), some (.int (nI s)), some (.int (nI l)), some (.int (0)), some (.ref (γ 5 s)), some (.ref (γ 1 l)), some (.int ((ll_al κ (sDecl κ s) (lQuo κ l) (lNight κ l) k).1)), some (.int ((ll_sum (fun p => if alIn κ (sDecl κ s) (lQuo κ l) (lNight κ l) p then pWorth κ p else 0) k))), some (.int (nI k)), none, none] [] h (jd_pu h (.int (worthOf κ (allowed κ (sDecl κ s) l)))) jd_no := by
    intro j
    induction j with
    | zero =>
      intro k hk0
      obtain rfl : k = nP κ := by omega
      refine jd_iload dX4_comeIn_34 rfl ?_
      refine jd_aload_n dX4_comeIn_36 rfl ?_
      refine jd_get in_X4 (w_mthis hw) 9 q1475 dX4_comeIn_37 rfl (Nat.le_of_ble_eq_true rfl) rfl ?_
      refine jd_pV (As := []) (rest := [.int (nI (nP κ))]) (ct_J2_size hlP (show nP κ ≤ 900 by omega)) (jd_rv hlP 15 rfl rfl) rfl q1533 q344 q1999 q83 q346 nJ2_size dX4_comeIn_40 rfl rfl rfl (Nat.le_of_ble_eq_true rfl) ⟨(Nat.le_of_ble_eq_true rfl), (Nat.le_of_ble_eq_true rfl)⟩ ?_
      refine jd_ncmp_ge (a := nP κ) (b := nP κ) (tgt := 199) dX4_comeIn_43 (by decide) (by omega) (by omega) (fun z2 => ?_) (fun z3 => ?_)
      · refine jd_iload_n dX4_comeIn_199 rfl ?_
        refine jd_nif_eq (a := 0) (tgt := 210) dX4_comeIn_200 (by decide) (by omega) (fun z4 => ?_) (fun z5 => ?_)
        · refine jd_iload dX4_comeIn_210 rfl ?_
          exact jd_iret dX4_comeIn_212 rfl ⟨congrArg (fun x => some (Value.int x)) (al_worth hP24), rfl⟩
        · omega
      · omega
    | succ j ih34 =>
      intro k hk0
      have hat := at_bd hI (p := k) (by omega)
      refine jd_iload dX4_comeIn_34 rfl ?_
      refine jd_aload_n dX4_comeIn_36 rfl ?_
      refine jd_get in_X4 (w_mthis hw) 9 q1475 dX4_comeIn_37 rfl (Nat.le_of_ble_eq_true rfl) rfl ?_
      refine jd_pV (As := []) (rest := [.int (nI k)]) (ct_J2_size hlP (show nP κ ≤ 900 by omega)) (jd_rv hlP 15 rfl rfl) rfl q1533 q344 q1999 q83 q346 nJ2_size dX4_comeIn_40 rfl rfl rfl (Nat.le_of_ble_eq_true rfl) ⟨(Nat.le_of_ble_eq_true rfl), (Nat.le_of_ble_eq_true rfl)⟩ ?_
      refine jd_ncmp_ge (a := k) (b := nP κ) (tgt := 199) dX4_comeIn_43 (by decide) (by omega) (by omega) (fun z6 => ?_) (fun z7 => ?_)
      · omega
      · refine jd_aload_n dX4_comeIn_46 rfl ?_
        refine jd_get in_X4 (w_mthis hw) 9 q1475 dX4_comeIn_47 rfl (Nat.le_of_ble_eq_true rfl) rfl ?_
        refine jd_iload dX4_comeIn_50 rfl ?_
        refine jd_pV (As := [.int (nI k)]) (rest := []) (ct_J2_get hlP (show nP κ ≤ 900 by omega) (k := k) (show k < nP κ by omega)) (jd_rv hlP 15 rfl rfl) rfl q1584 q325 q2001 q83 q327 nJ2_get dX4_comeIn_52 rfl rfl rfl (Nat.le_of_ble_eq_true rfl) ⟨(Nat.le_of_ble_eq_true rfl), (Nat.le_of_ble_eq_true rfl)⟩ ?_
        refine jd_castS (jd_rv ((w_mpart hw) k (show k < nP κ by omega)) 13 rfl rfl) (ci := 13) rfl q1638 dX4_comeIn_55 ?_
        refine jd_astore (ls' := [_, _, _, _, _, _, _, _, _, _, _]) dX4_comeIn_58 (Nat.le_of_ble_eq_true rfl) rfl rfl ?_
        refine jd_aload dX4_comeIn_60 rfl ?_
        refine jd_getN in_X12 ((w_mpart hw) k (show k < nP κ by omega)) 4 q1649 dX4_comeIn_62 rfl (Nat.le_of_ble_eq_true rfl) rfl ?_
        refine jd_iload_n dX4_comeIn_65 rfl ?_
        refine jd_ncmp_ne (a := (pAt κ k)) (b := s) (tgt := 193) dX4_comeIn_66 (by decide) (by omega) (by omega) (fun z8 => ?_) (fun z9 => ?_)
        · have hbit : ¬ ll_has (sDecl κ s) k := fun w => z8 ((at_head hI (by omega) (by omega)).mpr (hD k (by omega) w))
          refine jd_iincN (n := 1) (ls' := [_, _, _, _, _, _, _, _, _, _, _]) dX4_comeIn_193 rfl (Nat.le_of_ble_eq_true rfl) rfl rfl ?_
          refine jd_goto (tgt := 34) dX4_comeIn_196 (by decide) ?_
          refine jd_lsub [some (.ref (γ 0 0)), some (.int (nI s)), some (.int (nI l)), some (.int (0)), some (.ref (γ 5 s)), some (.ref (γ 1 l)), some (.int ((ll_al κ (sDecl κ s) (lQuo κ l) (lNight κ l) (k + 1)).1)), some (.int ((ll_sum (fun p => if alIn κ (sDecl κ s) (lQuo κ l) (lNight κ l) p then pWorth κ p else 0) (k + 1)))), some (.int (nI (k + 1))), none, none] ⟨rfl, rfl, rfl, rfl, rfl, rfl, (congrArg (fun x => some (Value.int x)) (al_n hbit).1), (congrArg (fun x => some (Value.int x)) (al_n hbit).2), rfl, trivial⟩ ?_
          exact ih34 (k + 1) (by omega)
        · refine jd_aload dX4_comeIn_69 rfl ?_
          refine jd_getN in_X10 ((w_msleeper hw) s (show s < nS κ by omega)) 5 q1605 dX4_comeIn_71 rfl (Nat.le_of_ble_eq_true rfl) rfl ?_
          refine jd_top (w := .int ((sDecl κ s))) (congrArg Value.int (w_mdecl hw s hs hr1)) ?_
          refine jd_iload dX4_comeIn_74 rfl ?_
          refine jd_ishr dX4_comeIn_76 ?_
          refine jd_iconst (v := 1) dX4_comeIn_77 (by decide) ?_
          refine jd_iand dX4_comeIn_78 ?_
          refine jd_if_ne (tgt := 85) dX4_comeIn_79 (by decide) (fun z10 => ?_) (fun z11 => ?_)
          · have hbit := has_t (x := sDecl κ s) (by omega) z10
            refine jd_aload dX4_comeIn_85 rfl ?_
            refine jd_pV (As := []) (rest := []) (ct_X12_isNightmare ((w_mpart hw) k (show k < nP κ by omega))) (jd_rv ((w_mpart hw) k (show k < nP κ by omega)) 13 rfl rfl) rfl q1793 q1794 q1795 q112 q1796 nX12_isNightmare dX4_comeIn_87 rfl rfl rfl (Nat.le_of_ble_eq_true rfl) ⟨(Nat.le_of_ble_eq_true rfl), (Nat.le_of_ble_eq_true rfl)⟩ ?_
            refine jd_mg1 108 (.int (jd_b ((((¬ (((pDread κ k)) < 5))) ∧ (¬ ((ll_al κ (sDecl κ s) (lQuo κ l) (lNight κ l) k).1 < (lQuo κ l))))))) (fun hj12 => ?_) ?_
            · refine jd_bif_eq (tgt := 107) dX4_comeIn_90 (by decide) (fun z13 => ?_) (fun z14 => ?_)
              · refine jd_iconst (v := 0) dX4_comeIn_107 (by decide) ?_
                exact jd_top (congrArg Value.int (jd_b0 (fun w => z13 w.1)).symm) hj12
              · refine jd_iload dX4_comeIn_93 rfl ?_
                refine jd_aload dX4_comeIn_95 rfl ?_
                refine jd_getN in_X5 ((w_mland hw) l (show l < 6 by omega)) 2 q1449 dX4_comeIn_97 rfl (Nat.le_of_ble_eq_true rfl) rfl ?_
                refine jd_icmp_lt (tgt := 107) dX4_comeIn_100 (by decide) (fun z15 => ?_) (fun z16 => ?_)
                · refine jd_iconst (v := 0) dX4_comeIn_107 (by decide) ?_
                  exact jd_top (congrArg Value.int (jd_b0 (fun w => (fun w => w z15) w.2)).symm) hj12
                · refine jd_iconst (v := 1) dX4_comeIn_103 (by decide) ?_
                  refine jd_goto (tgt := 108) dX4_comeIn_104 (by decide) ?_
                  exact jd_top (congrArg Value.int (jd_b1 ⟨z14, z16⟩).symm) hj12
            · refine jd_istore (ls' := [_, _, _, _, _, _, _, _, _, _, _]) dX4_comeIn_108 (Nat.le_of_ble_eq_true rfl) rfl rfl ?_
              refine jd_iload dX4_comeIn_110 rfl ?_
              refine jd_aload dX4_comeIn_112 rfl ?_
              refine jd_pV (As := []) (rest := [.int ((ll_al κ (sDecl κ s) (lQuo κ l) (lNight κ l) k).1)]) (ct_X12_isNightmare ((w_mpart hw) k (show k < nP κ by omega))) (jd_rv ((w_mpart hw) k (show k < nP κ by omega)) 13 rfl rfl) rfl q1793 q1794 q1795 q112 q1796 nX12_isNightmare dX4_comeIn_114 rfl rfl rfl (Nat.le_of_ble_eq_true rfl) ⟨(Nat.le_of_ble_eq_true rfl), (Nat.le_of_ble_eq_true rfl)⟩ ?_
              refine jd_mg1 130 (.int (jd_b ((((¬ (((pDread κ k)) < 5))) ∧ (¬ ((((¬ (((pDread κ k)) < 5))) ∧ (¬ ((ll_al κ (sDecl κ s) (lQuo κ l) (lNight κ l) k).1 < (lQuo κ l)))))))))) (fun hj17 => ?_) ?_
              · refine jd_bif_eq (tgt := 129) dX4_comeIn_117 (by decide) (fun z18 => ?_) (fun z19 => ?_)
                · refine jd_iconst (v := 0) dX4_comeIn_129 (by decide) ?_
                  exact jd_top (congrArg Value.int (jd_b0 (fun w => z18 w.1)).symm) hj17
                · refine jd_iload dX4_comeIn_120 rfl ?_
                  refine jd_bif_ne (tgt := 129) dX4_comeIn_122 (by decide) (fun z20 => ?_) (fun z21 => ?_)
                  · refine jd_iconst (v := 0) dX4_comeIn_129 (by decide) ?_
                    exact jd_top (congrArg Value.int (jd_b0 (fun w => (fun w => w z20) w.2)).symm) hj17
                  · refine jd_iconst (v := 1) dX4_comeIn_125 (by decide) ?_
                    refine jd_goto (tgt := 130) dX4_comeIn_126 (by decide) ?_
                    exact jd_top (congrArg Value.int (jd_b1 ⟨z19, z21⟩).symm) hj17
              · refine jd_iadd dX4_comeIn_130 ?_
                refine jd_istore (ls' := [_, _, _, _, _, _, _, _, _, _, _]) dX4_comeIn_131 (Nat.le_of_ble_eq_true rfl) rfl rfl ?_
                refine jd_iload dX4_comeIn_133 rfl ?_
                refine jd_iload dX4_comeIn_135 rfl ?_
                refine jd_mg1 149 (.int ((if (((¬ (((pDread κ k)) < 5))) ∧ (¬ ((ll_al κ (sDecl κ s) (lQuo κ l) (lNight κ l) k).1 < (lQuo κ l)))) then 0 else (pWorth κ k)))) (fun hj22 => ?_) ?_
                · refine jd_bif_eq (tgt := 144) dX4_comeIn_137 (by decide) (fun z23 => ?_) (fun z24 => ?_)
                  · refine jd_aload dX4_comeIn_144 rfl ?_
                    refine jd_getN in_X12 ((w_mpart hw) k (show k < nP κ by omega)) 1 q1645 dX4_comeIn_146 rfl (Nat.le_of_ble_eq_true rfl) rfl ?_
                    exact jd_top (congrArg Value.int (by rw [if_neg z23])) hj22
                  · refine jd_iconst (v := 0) dX4_comeIn_140 (by decide) ?_
                    refine jd_goto (tgt := 149) dX4_comeIn_141 (by decide) ?_
                    exact jd_top (congrArg Value.int (by rw [if_pos z24])) hj22
                · refine jd_iadd dX4_comeIn_149 ?_
                  refine jd_istore (ls' := [_, _, _, _, _, _, _, _, _, _, _]) dX4_comeIn_150 (Nat.le_of_ble_eq_true rfl) rfl rfl ?_
                  refine jd_iload_n dX4_comeIn_152 rfl ?_
                  refine jd_nif_eq (a := 0) (tgt := 174) dX4_comeIn_153 (by decide) (by omega) (fun z25 => ?_) (fun z26 => ?_)
                  · refine jd_iload_n dX4_comeIn_174 rfl ?_
                    refine jd_nif_eq (a := 0) (tgt := 193) dX4_comeIn_175 (by decide) (by omega) (fun z27 => ?_) (fun z28 => ?_)
                    · refine jd_iincN (n := 1) (ls' := [_, _, _, _, _, _, _, _, _, _, _]) dX4_comeIn_193 rfl (Nat.le_of_ble_eq_true rfl) rfl rfl ?_
                      refine jd_goto (tgt := 34) dX4_comeIn_196 (by decide) ?_
                      refine jd_lsub [some (.ref (γ 0 0)), some (.int (nI s)), some (.int (nI l)), some (.int (0)), some (.ref (γ 5 s)), some (.ref (γ 1 l)), some (.int ((ll_al κ (sDecl κ s) (lQuo κ l) (lNight κ l) (k + 1)).1)), some (.int ((ll_sum (fun p => if alIn κ (sDecl κ s) (lQuo κ l) (lNight κ l) p then pWorth κ p else 0) (k + 1)))), some (.int (nI (k + 1))), none, none] ⟨rfl, rfl, rfl, rfl, rfl, rfl, (congrArg (fun x => some (Value.int x)) (al_y1 hbit)), (congrArg (fun x => some (Value.int x)) (al_y2 hbit)), rfl, trivial⟩ ?_
                      exact ih34 (k + 1) (by omega)
                    · omega
                  · omega
          · have hbit := (has01 (x := sDecl κ s) (by omega)).mp z11
            refine jd_goto (tgt := 193) dX4_comeIn_82 (by decide) ?_
            refine jd_iincN (n := 1) (ls' := [_, _, _, _, _, _, _, _, _, _, _]) dX4_comeIn_193 rfl (Nat.le_of_ble_eq_true rfl) rfl rfl ?_
            refine jd_goto (tgt := 34) dX4_comeIn_196 (by decide) ?_
            refine jd_lsub [some (.ref (γ 0 0)), some (.int (nI s)), some (.int (nI l)), some (.int (0)), some (.ref (γ 5 s)), some (.ref (γ 1 l)), some (.int ((ll_al κ (sDecl κ s) (lQuo κ l) (lNight κ l) (k + 1)).1)), some (.int ((ll_sum (fun p => if alIn κ (sDecl κ s) (lQuo κ l) (lNight κ l) p then pWorth κ p else 0) (k + 1)))), some (.int (nI (k + 1))), none, none] ⟨rfl, rfl, rfl, rfl, rfl, rfl, (congrArg (fun x => some (Value.int x)) (al_n hbit).1), (congrArg (fun x => some (Value.int x)) (al_n hbit).2), rfl, trivial⟩ ?_
            exact ih34 (k + 1) (by omega)
  refine jd_lsub [some (.ref (γ 0 0)), some (.int (nI s)), some (.int (nI l)), some (.int (0)), some (.ref (γ 5 s)), some (.ref (γ 1 l)), some (.int ((ll_al κ (sDecl κ s) (lQuo κ l) (lNight κ l) 0).1)), some (.int ((ll_sum (fun p => if alIn κ (sDecl κ s) (lQuo κ l) (lNight κ l) p then pWorth κ p else 0) 0))), some (.int (nI 0)), none, none] ⟨rfl, rfl, rfl, rfl, rfl, rfl, rfl, rfl, rfl, trivial⟩ ?_
  exact lp34_1 (nP κ) 0 (by omega)

set_option maxRecDepth 20000 in
set_option maxHeartbeats 2000000 in
theorem ct_X4_duty {G : jd_G} {γ : ll_B} {κ : ll_K} {μ : ll_U} {h : jd_H} (hw : WM G γ κ μ h) (hI : ll_I κ) (x : Int32) (h1 : 0 ≤ x.toInt ∧ x.toInt ≤ 2376) (l : Nat) (hl : l < 6) : jd_Ct G mX4_duty 1 (0) (0) [.ref (γ 0 0), .int (x), .ref (γ 1 l)] h (jd_pu h (.int (dutyOf κ l x))) jd_no := by
  obtain ⟨⟨hG8, hS12, hP24, hH40, hN99, hH24⟩, hIg, hIs, hIp, hIh, hIl, hIq⟩ := id hI
  obtain ⟨mcG, hlG⟩ := w_mgates hw
  obtain ⟨mcS, hlS⟩ := w_msleepers hw
  obtain ⟨mcP, hlP⟩ := w_mparts hw
  obtain ⟨mcH, hlH⟩ := w_mhidings hw
  refine jd_ct (ls := [some (.ref (γ 0 0)), some (.int (x)), some (.ref (γ 1 l))]) rfl rfl (by decide) (Nat.le_of_ble_eq_true rfl) rfl ?_
  refine jd_iconst (v := 0) dX4_duty_0 (by decide) ?_
  refine jd_iload_n dX4_duty_1 rfl ?_
  refine jd_aload_n dX4_duty_2 rfl ?_
  refine jd_getN in_X5 ((w_mland hw) l (show l < 6 by omega)) 1 q1447 dX4_duty_3 rfl (Nat.le_of_ble_eq_true rfl) rfl ?_
  refine jd_isub dX4_duty_6 ?_
  refine jd_mmax q1801 q229 q87 q230 dX4_duty_7 (Nat.le_of_ble_eq_true rfl) (Nat.le_of_ble_eq_true rfl) ?_
  refine jd_aload_n dX4_duty_10 rfl ?_
  refine jd_getN in_X5 ((w_mland hw) l (show l < 6 by omega)) 0 q1445 dX4_duty_11 rfl (Nat.le_of_ble_eq_true rfl) rfl ?_
  refine jd_imul dX4_duty_14 ?_
  refine jd_bipush (v := 100) dX4_duty_15 (by decide) ?_
  refine jd_idiv dX4_duty_17 (by decide) ?_
  exact jd_iret dX4_duty_18 rfl ⟨congrArg (fun x => some (Value.int x)) (duty_eq h1 (hIl l hl).2.1), rfl⟩

theorem ct_bey {G : jd_G} {γ : ll_B} {κ : ll_K} {μ : ll_U} {h : jd_H} (hw : WM G γ κ μ h) (hI : ll_I κ) {g l : Nat} (hg : g < nG κ) (hl : l < 6) : jd_Ct G mX8_beyond 0 (0) (0) [.ref (γ 2 g), .int (nI l)] h (jd_pu h (.int (nI (acrossN κ g l)))) jd_no := by
  have e : nI (acrossN κ g l) = if nI (gOne κ g) = nI l then nI (gOther κ g) else nI (gOne κ g) := by
    have h1 := hI.2.1 g hg
    unfold acrossN
    by_cases h : l = gOne κ g
    · rw [if_pos h, if_pos (by rw [h])]
    · rw [if_neg h, if_neg (fun w => h ((nI_eq (by omega) (by omega)).mp w).symm)]
  rw [e]
  exact ct_X8_beyond (w_mgate hw g hg) (nI l)

set_option maxRecDepth 20000 in
set_option maxHeartbeats 2000000 in
theorem ct_X4_wouldPayNow {G : jd_G} {γ : ll_B} {κ : ll_K} {μ : ll_U} {h : jd_H} (hw : WM G γ κ μ h) (hI : ll_I κ) (g : Nat) (hg : g < nG κ) : jd_Ct G mX4_wouldPayNow 4 (0) (0) [.ref (γ 0 0), .int (nI g)] h (jd_pu h (.int (wouldPay κ g))) jd_no := by
  obtain ⟨⟨hG8, hS12, hP24, hH40, hN99, hH24⟩, hIg, hIs, hIp, hIh, hIl, hIq⟩ := id hI
  obtain ⟨mcG, hlG⟩ := w_mgates hw
  obtain ⟨mcS, hlS⟩ := w_msleepers hw
  obtain ⟨mcP, hlP⟩ := w_mparts hw
  obtain ⟨mcH, hlH⟩ := w_mhidings hw
  refine jd_ct (ls := [some (.ref (γ 0 0)), some (.int (nI g)), none, none, none]) rfl rfl (by decide) (Nat.le_of_ble_eq_true rfl) rfl ?_
  refine jd_aload_n dX4_wouldPayNow_0 rfl ?_
  refine jd_get in_X4 (w_mthis hw) 7 q1473 dX4_wouldPayNow_1 rfl (Nat.le_of_ble_eq_true rfl) rfl ?_
  refine jd_iload_n dX4_wouldPayNow_4 rfl ?_
  refine jd_pV (As := [.int (nI g)]) (rest := []) (ct_J2_get hlG (show nG κ ≤ 900 by omega) (k := g) (show g < nG κ by omega)) (jd_rv hlG 15 rfl rfl) rfl q1584 q325 q2001 q83 q327 nJ2_get dX4_wouldPayNow_5 rfl rfl rfl (Nat.le_of_ble_eq_true rfl) ⟨(Nat.le_of_ble_eq_true rfl), (Nat.le_of_ble_eq_true rfl)⟩ ?_
  refine jd_castS (jd_rv ((w_mgate hw) g (show g < nG κ by omega)) 11 rfl rfl) (ci := 11) rfl q1534 dX4_wouldPayNow_8 ?_
  have hql := (hIg g hg).2.2.1
  refine jd_astore_n (ls' := [_, _, _, _, _]) dX4_wouldPayNow_11 (Nat.le_of_ble_eq_true rfl) rfl rfl ?_
  refine jd_aload_n dX4_wouldPayNow_12 rfl ?_
  refine jd_getN in_X8 ((w_mgate hw) g (show g < nG κ by omega)) 6 q1555 dX4_wouldPayNow_13 rfl (Nat.le_of_ble_eq_true rfl) rfl ?_
  obtain ⟨mcq1, hqu1⟩ := w_mqueue hw g (show g < nG κ by omega)
  have hql1 := (hIg g (show g < nG κ by omega)).2.2.1
  refine jd_pV (As := []) (rest := []) (ct_J2_isEmpty hqu1 (by omega)) (jd_rv hqu1 15 rfl rfl) rfl q1767 q471 q2003 q83 q473 nJ2_isEmpty dX4_wouldPayNow_16 rfl rfl rfl (Nat.le_of_ble_eq_true rfl) ⟨(Nat.le_of_ble_eq_true rfl), (Nat.le_of_ble_eq_true rfl)⟩ ?_
  refine jd_bif_ne (tgt := 44) dX4_wouldPayNow_19 (by decide) (fun z2 => ?_) (fun z3 => ?_)
  · refine jd_iconst (v := 0) dX4_wouldPayNow_44 (by decide) ?_
    exact jd_iret dX4_wouldPayNow_45 rfl ⟨by rw [wouldPay, if_pos (Or.inl z2)], rfl⟩
  · refine jd_aload_n dX4_wouldPayNow_22 rfl ?_
    refine jd_aload_n dX4_wouldPayNow_23 rfl ?_
    refine jd_getN in_X8 ((w_mgate hw) g (show g < nG κ by omega)) 6 q1555 dX4_wouldPayNow_24 rfl (Nat.le_of_ble_eq_true rfl) rfl ?_
    refine jd_iconst (v := 0) dX4_wouldPayNow_27 (by decide) ?_
    have hbx4 := q_lt hI (g := g) (show g < nG κ by omega) (j := 0) (by omega)
    refine jd_pV (As := [.int (0)]) (rest := [.ref (γ 0 0)]) (ct_J2_get hqu1 (by omega) (k := 0) (show 0 < (gQue κ g).length by omega)) (jd_rv hqu1 15 rfl rfl) rfl q1584 q325 q2001 q83 q327 nJ2_get dX4_wouldPayNow_28 rfl rfl rfl (Nat.le_of_ble_eq_true rfl) ⟨(Nat.le_of_ble_eq_true rfl), (Nat.le_of_ble_eq_true rfl)⟩ ?_
    refine jd_castS (jd_rvB (k := (qAt κ g 0) + 128) (by omega)) (ci := 20) rfl q1696 dX4_wouldPayNow_31 ?_
    refine jd_pV (As := []) (rest := [.ref (γ 0 0)]) (ct_J19_intValue (v := qAt κ g 0) (by omega)) (jd_rvB (k := (qAt κ g 0) + 128) (by omega)) rfl q1697 q1698 q1699 q115 q1700 nJ19_intValue dX4_wouldPayNow_34 rfl rfl rfl (Nat.le_of_ble_eq_true rfl) ⟨(Nat.le_of_ble_eq_true rfl), (Nat.le_of_ble_eq_true rfl)⟩ ?_
    refine jd_iload_n dX4_wouldPayNow_37 rfl ?_
    refine jd_pV (As := [.int (nI (qAt κ g 0)), .int (nI g)]) (rest := []) (ct_X4_isGoodNow hw hI (qAt κ g 0) (g) (by omega) (by omega)) (jd_rv (w_mthis hw) 9 rfl rfl) rfl q1768 q1770 qs58 q90 q1771 nX4_isGoodNow dX4_wouldPayNow_38 rfl rfl rfl (Nat.le_of_ble_eq_true rfl) ⟨(Nat.le_of_ble_eq_true rfl), (Nat.le_of_ble_eq_true rfl)⟩ ?_
    refine jd_bif_ne (tgt := 46) dX4_wouldPayNow_41 (by decide) (fun z5 => ?_) (fun z6 => ?_)
    · have hq2 := q_lt hI hg (j := 0) (by omega)
      have hs1 := (hIs _ hq2).1
      have hac := across_lt hI (g := g) (l := sLand κ (qAt κ g 0)) hg
      have hqm := (hIg g hg).2.2.2.2.1 _ (qAt_mem (show 0 < (gQue κ g).length by omega))
      have hdq := (hIs _ hq2).2.2.2.2.2.2.2.2.2 hqm.2.1
      refine jd_aload_n dX4_wouldPayNow_46 rfl ?_
      refine jd_getN in_X8 ((w_mgate hw) g (show g < nG κ by omega)) 6 q1555 dX4_wouldPayNow_47 rfl (Nat.le_of_ble_eq_true rfl) rfl ?_
      refine jd_iconst (v := 0) dX4_wouldPayNow_50 (by decide) ?_
      have hbx7 := q_lt hI (g := g) (show g < nG κ by omega) (j := 0) (by omega)
      refine jd_pV (As := [.int (0)]) (rest := []) (ct_J2_get hqu1 (by omega) (k := 0) (show 0 < (gQue κ g).length by omega)) (jd_rv hqu1 15 rfl rfl) rfl q1584 q325 q2001 q83 q327 nJ2_get dX4_wouldPayNow_51 rfl rfl rfl (Nat.le_of_ble_eq_true rfl) ⟨(Nat.le_of_ble_eq_true rfl), (Nat.le_of_ble_eq_true rfl)⟩ ?_
      refine jd_castS (jd_rvB (k := (qAt κ g 0) + 128) (by omega)) (ci := 20) rfl q1696 dX4_wouldPayNow_54 ?_
      refine jd_pV (As := []) (rest := []) (ct_J19_intValue (v := qAt κ g 0) (by omega)) (jd_rvB (k := (qAt κ g 0) + 128) (by omega)) rfl q1697 q1698 q1699 q115 q1700 nJ19_intValue dX4_wouldPayNow_57 rfl rfl rfl (Nat.le_of_ble_eq_true rfl) ⟨(Nat.le_of_ble_eq_true rfl), (Nat.le_of_ble_eq_true rfl)⟩ ?_
      refine jd_istore_n (ls' := [_, _, _, _, _]) dX4_wouldPayNow_60 (Nat.le_of_ble_eq_true rfl) rfl rfl ?_
      refine jd_aload_n dX4_wouldPayNow_61 rfl ?_
      refine jd_aload_n dX4_wouldPayNow_62 rfl ?_
      refine jd_get in_X4 (w_mthis hw) 8 q1474 dX4_wouldPayNow_63 rfl (Nat.le_of_ble_eq_true rfl) rfl ?_
      refine jd_iload_n dX4_wouldPayNow_66 rfl ?_
      refine jd_pV (As := [.int (nI (qAt κ g 0))]) (rest := [.ref (γ 2 g)]) (ct_J2_get hlS (show nS κ ≤ 900 by omega) (k := qAt κ g 0) (show qAt κ g 0 < nS κ by omega)) (jd_rv hlS 15 rfl rfl) rfl q1584 q325 q2001 q83 q327 nJ2_get dX4_wouldPayNow_67 rfl rfl rfl (Nat.le_of_ble_eq_true rfl) ⟨(Nat.le_of_ble_eq_true rfl), (Nat.le_of_ble_eq_true rfl)⟩ ?_
      refine jd_castS (jd_rv ((w_msleeper hw) (qAt κ g 0) (show qAt κ g 0 < nS κ by omega)) 12 rfl rfl) (ci := 12) rfl q1593 dX4_wouldPayNow_70 ?_
      refine jd_getN in_X10 ((w_msleeper hw) (qAt κ g 0) (show qAt κ g 0 < nS κ by omega)) 0 q1599 dX4_wouldPayNow_73 rfl (Nat.le_of_ble_eq_true rfl) rfl ?_
      refine jd_pV (As := [.int (nI ((sLand κ (qAt κ g 0))))]) (rest := []) (ct_bey hw hI (g := g) (l := (sLand κ (qAt κ g 0))) (by omega) (by omega)) (jd_rv ((w_mgate hw) g (show g < nG κ by omega)) 11 rfl rfl) rfl q1781 q1782 q1783 q104 q1784 nX8_beyond dX4_wouldPayNow_76 rfl rfl rfl (Nat.le_of_ble_eq_true rfl) ⟨(Nat.le_of_ble_eq_true rfl), (Nat.le_of_ble_eq_true rfl)⟩ ?_
      refine jd_istore (ls' := [_, _, _, _, _]) dX4_wouldPayNow_79 (Nat.le_of_ble_eq_true rfl) rfl rfl ?_
      refine jd_aload_n dX4_wouldPayNow_81 rfl ?_
      refine jd_aload_n dX4_wouldPayNow_82 rfl ?_
      refine jd_iload_n dX4_wouldPayNow_83 rfl ?_
      refine jd_iload dX4_wouldPayNow_84 rfl ?_
      refine jd_iconst (v := 0) dX4_wouldPayNow_86 (by decide) ?_
      refine jd_pV (As := [.int (nI (qAt κ g 0)), .int (nI ((acrossN κ g ((sLand κ (qAt κ g 0)))))), .int (0)]) (rest := [.ref (γ 0 0)]) (ct_X4_comeIn_f hw hI (qAt κ g 0) ((acrossN κ g ((sLand κ (qAt κ g 0))))) (by omega) (by omega) hqm.2.1 (fun p hp hd => (hdq p (by omega) hd).2)) (jd_rv (w_mthis hw) 9 rfl rfl) rfl q1789 q1791 qs61 q90 q1792 nX4_comeIn dX4_wouldPayNow_87 rfl rfl rfl (Nat.le_of_ble_eq_true rfl) ⟨(Nat.le_of_ble_eq_true rfl), (Nat.le_of_ble_eq_true rfl)⟩ ?_
      refine jd_aload_n dX4_wouldPayNow_90 rfl ?_
      refine jd_get in_X4 (w_mthis hw) 6 q1472 dX4_wouldPayNow_91 rfl (Nat.le_of_ble_eq_true rfl) rfl ?_
      refine jd_iload dX4_wouldPayNow_94 rfl ?_
      refine jd_aald (y := γ 1 ((acrossN κ g ((sLand κ (qAt κ g 0)))))) (w_mlands hw) dX4_wouldPayNow_96 5 rfl (vp_in_nI (by omega) (by omega)) (by rw [nI_clamp (by omega)]) ?_
      refine jd_pV (As := [.int ((worthOf κ (allowed κ (sDecl κ (qAt κ g 0)) ((acrossN κ g ((sLand κ (qAt κ g 0)))))))), .ref (γ 1 ((acrossN κ g ((sLand κ (qAt κ g 0))))))]) (rest := []) (ct_X4_duty hw hI ((worthOf κ (allowed κ (sDecl κ (qAt κ g 0)) ((acrossN κ g ((sLand κ (qAt κ g 0)))))))) (worth_bd hI _) (acrossN κ g ((sLand κ (qAt κ g 0)))) (by omega)) (jd_rv (w_mthis hw) 9 rfl rfl) rfl q1797 q1799 qs62 q90 q1800 nX4_duty dX4_wouldPayNow_97 rfl rfl rfl (Nat.le_of_ble_eq_true rfl) ⟨(Nat.le_of_ble_eq_true rfl), (Nat.le_of_ble_eq_true rfl)⟩ ?_
      exact jd_iret dX4_wouldPayNow_100 rfl ⟨congrArg (fun x => some (Value.int x)) (if_neg (fun w => w.elim z3 (fun w2 => w2 z5)) : wouldPay κ g = _).symm, rfl⟩
    · refine jd_iconst (v := 0) dX4_wouldPayNow_44 (by decide) ?_
      exact jd_iret dX4_wouldPayNow_45 rfl ⟨by rw [wouldPay, if_pos (Or.inr z6)], rfl⟩
