/-! the model: yawn (printed by mk_c.py) -/
set_option maxRecDepth 20000 in
set_option maxHeartbeats 2000000 in
theorem ct_X4_yawn {G : jd_G} {γ : ll_B} {κ : ll_K} {μ : ll_U} {h : jd_H} (hw : WM G γ κ μ h) (hI : ll_I κ) (g : Int32) : jd_Ct G mX4_yawn 13 (72) (14400) [.ref (γ 0 0), .int (g)] h (jd_mo G γ κ h (c_yawn κ g) (.int (yawnVal κ (tN g))) (k_yawn κ (tN g))) jd_no := by
  obtain ⟨⟨hG8, hS12, hP24, hH40, hN99, hH24⟩, hIg, hIs, hIp, hIh, hIl, hIq⟩ := id hI
  obtain ⟨mcG, hlG⟩ := w_mgates hw
  obtain ⟨mcS, hlS⟩ := w_msleepers hw
  obtain ⟨mcP, hlP⟩ := w_mparts hw
  obtain ⟨mcH, hlH⟩ := w_mhidings hw
  refine jd_ct (ls := [some (.ref (γ 0 0)), some (.int (g)), none, none, none, none, none]) rfl rfl (by decide) (Nat.le_of_ble_eq_true rfl) rfl ?_
  refine jd_aload_n dX4_yawn_0 rfl ?_
  refine jd_iconst (v := 0) dX4_yawn_1 (by decide) ?_
  refine jd_put (fs' := [_, _, _, _, _, _, _, _, _, _, _, _, _]) in_X4 tyX4_ok nmX4 (w_mthis hw) 0 q1466 dX4_yawn_2 rfl (Nat.le_of_ble_eq_true rfl) rfl rfl rfl (Nat.le_of_ble_eq_true rfl) rfl ?_
  refine jd_updG (fun h1 hs1 ho1 => ?_)
  have hw1 := m_thrown hw (v := 0) hs1 ho1
  refine jd_aload_n dX4_yawn_5 rfl ?_
  refine jd_iload_n dX4_yawn_6 rfl ?_
  refine jd_pV (As := [.int (g)]) (rest := []) (ct_X4_isGate hw1 hI (g)) (jd_rv (w_mthis hw1) 9 rfl rfl) rfl q1580 q1582 qs51 q90 q1583 nX4_isGate dX4_yawn_7 rfl rfl rfl (Nat.le_of_ble_eq_true rfl) ⟨(Nat.le_of_ble_eq_true rfl), (Nat.le_of_ble_eq_true rfl)⟩ ?_
  refine jd_bif_ne (tgt := 19) dX4_yawn_10 (by decide) (fun z2 => ?_) (fun z3 => ?_)
  · have hcc4 := z2
    obtain ⟨k_g, hk_g, rfl⟩ := inN_ex (n := (nG κ)) (by omega) hcc4
    have hT_g := tN_nI (show k_g < 2 ^ 31 by omega)
    refine jd_aload_n dX4_yawn_19 rfl ?_
    refine jd_get in_X4 (w_mthis hw1) 7 q1473 dX4_yawn_20 rfl (Nat.le_of_ble_eq_true rfl) rfl ?_
    refine jd_iload_n dX4_yawn_23 rfl ?_
    obtain ⟨mcl5, hl5_⟩ := w_mgates hw1
    refine jd_pV (As := [.int (nI k_g)]) (rest := []) (ct_J2_get hl5_ (show nG κ ≤ 900 by omega) (k := k_g) (show k_g < nG κ by omega)) (jd_rv hl5_ 15 rfl rfl) rfl q1584 q325 q2001 q83 q327 nJ2_get dX4_yawn_24 rfl rfl rfl (Nat.le_of_ble_eq_true rfl) ⟨(Nat.le_of_ble_eq_true rfl), (Nat.le_of_ble_eq_true rfl)⟩ ?_
    refine jd_castS (jd_rv ((w_mgate hw1) k_g (show k_g < nG κ by omega)) 11 rfl rfl) (ci := 11) rfl q1534 dX4_yawn_27 ?_
    refine jd_astore_n (ls' := [_, _, _, _, _, _, _]) dX4_yawn_30 (Nat.le_of_ble_eq_true rfl) rfl rfl ?_
    refine jd_aload_n dX4_yawn_31 rfl ?_
    refine jd_aload_n dX4_yawn_32 rfl ?_
    refine jd_get in_X4 (w_mthis hw1) 2 q1468 dX4_yawn_33 rfl (Nat.le_of_ble_eq_true rfl) rfl ?_
    refine jd_pV (As := [.int (nI ((nHour κ)))]) (rest := []) (ct_X8_isOpen ((w_mgate hw1) k_g (show k_g < nG κ by omega)) (nI ((nHour κ)))) (jd_rv ((w_mgate hw1) k_g (show k_g < nG κ by omega)) 11 rfl rfl) rfl q1763 q1764 q1765 q104 q1766 nX8_isOpen dX4_yawn_36 rfl rfl rfl (Nat.le_of_ble_eq_true rfl) ⟨(Nat.le_of_ble_eq_true rfl), (Nat.le_of_ble_eq_true rfl)⟩ ?_
    refine jd_bif_eq (tgt := 52) dX4_yawn_39 (by decide) (fun z6 => ?_) (fun z7 => ?_)
    · have hcc8 := (show ¬ openAt κ k_g (nI (nHour κ)) from by have w := z6; rw [open_eq] at w; exact w)
      refine jd_aload_n dX4_yawn_52 rfl ?_
      refine jd_iconst (v := 2) dX4_yawn_53 (by decide) ?_
      refine jd_callV (As := [.int (2)]) (rest := []) (ct_X4_refuse hw1 (2)) (jd_rv (w_mthis hw1) 9 rfl rfl) rfl q1521 q1523 qs50 q90 q1524 nX4_refuse dX4_yawn_54 rfl rfl rfl (Nat.le_of_ble_eq_true rfl) ⟨(Nat.le_of_ble_eq_true rfl), (Nat.le_of_ble_eq_true rfl), by omega, by omega⟩ (fun rv8 hn8 hq8 => ?_) jd_nox
      obtain ⟨rfl, hw8_, hf8_⟩ := hq8
      exact jd_iret dX4_yawn_57 rfl (jd_mo.no (γ' := γ) (μ' := (mu_s (mu_s μ 0 0 0) 0 0 2)) (k := 2) (by unfold c_yawn; (try simp only [hT_g]); rw [if_pos hcc4, if_neg (fun w => hcc8 w.1)]) (by decide) rfl hw8_ rfl (fun j hj => ((hf8_ j hj).trans (ho1 j (ll_nel (by decide) hj)))))
    · have hcc10 := (show openAt κ k_g (nI (nHour κ)) from by have w := z7; rw [open_eq] at w; exact w)
      refine jd_aload_n dX4_yawn_42 rfl ?_
      refine jd_getN in_X8 ((w_mgate hw1) k_g (show k_g < nG κ by omega)) 6 q1555 dX4_yawn_43 rfl (Nat.le_of_ble_eq_true rfl) rfl ?_
      obtain ⟨mcq11, hqu11⟩ := w_mqueue hw1 k_g (show k_g < nG κ by omega)
      have hql11 := (hIg k_g (show k_g < nG κ by omega)).2.2.1
      refine jd_pV (As := []) (rest := []) (ct_J2_isEmpty hqu11 (by omega)) (jd_rv hqu11 15 rfl rfl) rfl q1767 q471 q2003 q83 q473 nJ2_isEmpty dX4_yawn_46 rfl rfl rfl (Nat.le_of_ble_eq_true rfl) ⟨(Nat.le_of_ble_eq_true rfl), (Nat.le_of_ble_eq_true rfl)⟩ ?_
      refine jd_bif_eq (tgt := 58) dX4_yawn_49 (by decide) (fun z12 => ?_) (fun z13 => ?_)
      · have hcc14 := z12
        have hq0 : ¬ (gQue κ k_g).length = 0 := hcc14
        have hq2 := q_lt hI hk_g (j := 0) (by omega)
        have hqX := (hIg k_g hk_g).2.2.1
        have hqm := (hIg k_g hk_g).2.2.2.2.1 _ (qAt_mem (show 0 < (gQue κ k_g).length by omega))
        have hDm : (mu_s μ 0 0 0).1 2 (qAt κ k_g 0) = sDecl κ (qAt κ k_g 0) := w_mdecl hw1 _ hq2 hqm.2.1
        have w110 : ∀ (κ2 : ll_K) (hh0 : jd_H) (t : Int32) (hw2 : WM G γ κ2 (mu_s μ 0 0 0) hh0) (hI2 : ll_I κ2) (hg2 : k_g < nG κ2) (hQ : ∀ h2 : jd_H, WM G γ (k_wearA κ2 k_g) (mu_s μ 0 0 0) h2 → (∀ j : jd_Id, (j.1 < 20 ∨ 40 ≤ j.1) → h2 j = hh0 j) → (jd_mo G γ κ h (c_yawn κ (nI k_g)) (.int (yawnVal κ (tN (nI k_g)))) (k_yawn κ (tN (nI k_g)))) (some (.int t)) h2), jd_W G mX4_yawn 13 0 0 110 [some (.ref (γ 0 0)), some (.int (nI k_g)), some (.ref (γ 2 k_g)), some (.int (nI ((qAt κ k_g 0)))), some (.int (t)), none, none] [] hh0 (jd_mo G γ κ h (c_yawn κ (nI k_g)) (.int (yawnVal κ (tN (nI k_g)))) (k_yawn κ (tN (nI k_g)))) jd_no := by
          intro κ2 hh0 t hw2 hI2 hg2 hQ
          obtain ⟨⟨hG8, hS12, hP24, hH40, hN99, hH24⟩, hIg, hIs, hIp, hIh, hIl, hIq⟩ := id hI2
          have hq12 := (hIg k_g hg2).2.2.1
          have hnd := (hIg k_g hg2).2.2.2.1
          refine jd_aload_n dX4_yawn_110 rfl ?_
          refine jd_getN in_X8 ((w_mgate hw2) k_g (show k_g < nG κ2 by omega)) 6 q1555 dX4_yawn_111 rfl (Nat.le_of_ble_eq_true rfl) rfl ?_
          obtain ⟨mcq15, hqu15⟩ := w_mqueue hw2 k_g (show k_g < nG κ2 by omega)
          have hql15 := (hIg k_g (show k_g < nG κ2 by omega)).2.2.1
          refine jd_pV (As := []) (rest := []) (ct_J2_size hqu15 (by omega)) (jd_rv hqu15 15 rfl rfl) rfl q1533 q344 q1999 q83 q346 nJ2_size dX4_yawn_114 rfl rfl rfl (Nat.le_of_ble_eq_true rfl) ⟨(Nat.le_of_ble_eq_true rfl), (Nat.le_of_ble_eq_true rfl)⟩ ?_
          refine jd_iconst (v := 1) dX4_yawn_117 (by decide) ?_
          refine jd_isub dX4_yawn_118 ?_
          refine jd_istore (ls' := [_, _, _, _, _, _, _]) dX4_yawn_119 (Nat.le_of_ble_eq_true rfl) rfl rfl ?_
          have lp121_16 : ∀ (j : Nat) (i : Nat) (hi0 : i = j) (hile : i ≤ (gQue κ2 k_g).length) (hh : jd_H) (hw2 : WM G γ (k_wearB κ2 k_g i) (mu_s μ 0 0 0) hh) (hf2 : ∀ j : jd_Id, (j.1 < 20 ∨ 40 ≤ j.1) → hh j = hh0 j), jd_W G mX4_yawn 13 (0) (0) 121 [some (.ref (γ 0 0)), some (.int (nI k_g)), some (.ref (γ 2 k_g)), some (.int (nI ((qAt κ k_g 0)))), some (.int (t)), some (.int ((nI i - 1))), none] [] hh (jd_mo G γ κ h (c_yawn κ (nI k_g)) (.int (yawnVal κ (tN (nI k_g)))) (k_yawn κ (tN (nI k_g)))) jd_no := by
            intro j
            induction j with
            | zero =>
              intro i hi0 hile hh hw2 hf2
              subst hi0
              refine jd_lsub [some (.ref (γ 0 0)), some (.int (nI k_g)), some (.ref (γ 2 k_g)), some (.int (nI ((qAt κ k_g 0)))), some (.int (t)), some (.int ((-1))), none] ⟨rfl, rfl, rfl, rfl, rfl, (congrArg (fun x => some (Value.int x)) (by decide)), trivial⟩ ?_
              refine jd_iload dX4_yawn_121 rfl ?_
              refine jd_if_lt (tgt := 195) dX4_yawn_123 (by decide) (fun z17 => ?_) (fun z18 => ?_)
              · refine jd_iload dX4_yawn_195 rfl ?_
                exact jd_iret dX4_yawn_197 rfl (hQ _ (by rw [← wearB0]; exact hw2) (fun j hj => (hf2 j hj)))
              · exact absurd (by decide) z18
            | succ p ih121 =>
              intro i hi0 hile hh hw2 hf2
              subst hi0
              have hi : p < (gQue κ2 k_g).length := by omega
              have hqz := q_lt hI2 hg2 (j := p) hi
              have hqm := (hIg k_g hg2).2.2.2.2.1 _ (qAt_mem hi)
              obtain ⟨hwl1, hwl2⟩ := wearB_len hi
              refine jd_lsub [some (.ref (γ 0 0)), some (.int (nI k_g)), some (.ref (γ 2 k_g)), some (.int (nI ((qAt κ k_g 0)))), some (.int (t)), some (.int (nI p)), none] ⟨rfl, rfl, rfl, rfl, rfl, (congrArg (fun x => some (Value.int x)) (nI_p1 (by omega))), trivial⟩ ?_
              refine jd_iload dX4_yawn_121 rfl ?_
              refine jd_nif_lt (a := p) (tgt := 195) dX4_yawn_123 (by decide) (by omega) ?_
              refine jd_aload_n dX4_yawn_126 rfl ?_
              refine jd_getN in_X8 ((w_mgate hw2) k_g (show k_g < nG κ2 by omega)) 6 q1555 dX4_yawn_127 rfl (Nat.le_of_ble_eq_true rfl) rfl ?_
              refine jd_iload dX4_yawn_130 rfl ?_
              obtain ⟨mcq19, hqu19⟩ := w_mqueue hw2 k_g (show k_g < nG κ2 by omega)
              have hql19 := (hIg k_g (show k_g < nG κ2 by omega)).2.2.1
              have hbx20 := q_lt hI2 (g := k_g) (show k_g < nG κ2 by omega) (j := p) (by omega)
              refine jd_pV (As := [.int (nI p)]) (rest := []) (ct_J2_get hqu19 (by omega) (k := p) (show p < (gQue (k_wearB κ2 k_g (p + 1)) k_g).length by omega)) (jd_rv hqu19 15 rfl rfl) rfl q1584 q325 q2001 q83 q327 nJ2_get dX4_yawn_132 rfl rfl rfl (Nat.le_of_ble_eq_true rfl) ⟨(Nat.le_of_ble_eq_true rfl), (Nat.le_of_ble_eq_true rfl)⟩ ?_
              refine jd_top (w := .ref (jd_bx G (qAt κ2 k_g p))) (congrArg (fun x => Value.ref (jd_bx G x)) (wearB_at hi (Nat.le_refl _))) ?_
              refine jd_castS (jd_rvB (k := (qAt κ2 k_g p) + 128) (by omega)) (ci := 20) rfl q1696 dX4_yawn_135 ?_
              refine jd_pV (As := []) (rest := []) (ct_J19_intValue (v := qAt κ2 k_g p) (by omega)) (jd_rvB (k := (qAt κ2 k_g p) + 128) (by omega)) rfl q1697 q1698 q1699 q115 q1700 nJ19_intValue dX4_yawn_138 rfl rfl rfl (Nat.le_of_ble_eq_true rfl) ⟨(Nat.le_of_ble_eq_true rfl), (Nat.le_of_ble_eq_true rfl)⟩ ?_
              refine jd_istore (ls' := [_, _, _, _, _, _, _]) dX4_yawn_141 (Nat.le_of_ble_eq_true rfl) rfl rfl ?_
              refine jd_aload_n dX4_yawn_143 rfl ?_
              refine jd_get in_X4 (w_mthis hw2) 8 q1474 dX4_yawn_144 rfl (Nat.le_of_ble_eq_true rfl) rfl ?_
              refine jd_iload dX4_yawn_147 rfl ?_
              obtain ⟨mcl21, hl21_⟩ := w_msleepers hw2
              refine jd_pV (As := [.int (nI (qAt κ2 k_g p))]) (rest := []) (ct_J2_get hl21_ (show nS κ2 ≤ 900 by omega) (k := qAt κ2 k_g p) (show qAt κ2 k_g p < nS κ2 by omega)) (jd_rv hl21_ 15 rfl rfl) rfl q1584 q325 q2001 q83 q327 nJ2_get dX4_yawn_149 rfl rfl rfl (Nat.le_of_ble_eq_true rfl) ⟨(Nat.le_of_ble_eq_true rfl), (Nat.le_of_ble_eq_true rfl)⟩ ?_
              refine jd_castS (jd_rv ((w_msleeper hw2) (qAt κ2 k_g p) (show qAt κ2 k_g p < nS κ2 by omega)) 12 rfl rfl) (ci := 12) rfl q1593 dX4_yawn_152 ?_
              refine jd_dup dX4_yawn_155 rfl ?_
              refine jd_getN in_X10 ((w_msleeper hw2) (qAt κ2 k_g p) (show qAt κ2 k_g p < nS κ2 by omega)) 2 q1601 dX4_yawn_156 rfl (Nat.le_of_ble_eq_true rfl) rfl ?_
              refine jd_iconst (v := 1) dX4_yawn_159 (by decide) ?_
              refine jd_isub dX4_yawn_160 ?_
              refine jd_putN (fs' := [_, _, _, _, _, _, _, _, _]) in_X10 tyX10_ok nmX10 ((w_msleeper hw2) (qAt κ2 k_g p) (show qAt κ2 k_g p < nS κ2 by omega)) 2 q1601 dX4_yawn_161 rfl (Nat.le_of_ble_eq_true rfl) rfl rfl rfl (Nat.le_of_ble_eq_true rfl) rfl ?_
              refine jd_updG (fun h22 hs22 ho22 => ?_)
              have hw22 := m_sPat hw2 (k := qAt κ2 k_g p) (show qAt κ2 k_g p < nS κ2 by omega) (v := ((sPat (k_wearB κ2 k_g (p + 1)) (qAt κ2 k_g p)) - 1)) hs22 ho22
              refine jd_aload_n dX4_yawn_164 rfl ?_
              refine jd_get in_X4 (w_mthis hw22) 8 q1474 dX4_yawn_165 rfl (Nat.le_of_ble_eq_true rfl) rfl ?_
              refine jd_iload dX4_yawn_168 rfl ?_
              obtain ⟨mcl23, hl23_⟩ := w_msleepers hw22
              refine jd_pV (As := [.int (nI (qAt κ2 k_g p))]) (rest := []) (ct_J2_get hl23_ (show nS κ2 ≤ 900 by omega) (k := qAt κ2 k_g p) (show qAt κ2 k_g p < nS κ2 by omega)) (jd_rv hl23_ 15 rfl rfl) rfl q1584 q325 q2001 q83 q327 nJ2_get dX4_yawn_170 rfl rfl rfl (Nat.le_of_ble_eq_true rfl) ⟨(Nat.le_of_ble_eq_true rfl), (Nat.le_of_ble_eq_true rfl)⟩ ?_
              refine jd_castS (jd_rv ((w_msleeper hw22) (qAt κ2 k_g p) (show qAt κ2 k_g p < nS κ2 by omega)) 12 rfl rfl) (ci := 12) rfl q1593 dX4_yawn_173 ?_
              refine jd_getN in_X10 ((w_msleeper hw22) (qAt κ2 k_g p) (show qAt κ2 k_g p < nS κ2 by omega)) 2 q1601 dX4_yawn_176 rfl (Nat.le_of_ble_eq_true rfl) rfl ?_
              refine jd_if_ne (tgt := 189) dX4_yawn_179 (by decide) (fun z24 => ?_) (fun z25 => ?_)
              · have h1 := fun w => z24 ((wearB_z hnd hi).mpr w)
                refine jd_iinc (v := (nI p + (-1))) (ls' := [_, _, _, _, _, _, _]) dX4_yawn_189 rfl (by first | rfl | decide) (Nat.le_of_ble_eq_true rfl) rfl rfl ?_
                refine jd_goto (tgt := 121) dX4_yawn_192 (by decide) ?_
                have hw3 : WM G γ (k_wearB κ2 k_g p) (mu_s μ 0 0 0) h22 := by rw [← wearB_y hnd hi h1]; exact hw22
                refine jd_lsub [some (.ref (γ 0 0)), some (.int (nI k_g)), some (.ref (γ 2 k_g)), some (.int (nI ((qAt κ k_g 0)))), some (.int (t)), some (.int ((nI p - 1))), none] ⟨rfl, rfl, rfl, rfl, rfl, (congrArg (fun x => some (Value.int x)) nI_m), trivial⟩ ?_
                exact ih121 p rfl (by omega) h22 hw3 (fun j hj => ((ho22 j (ll_nel (by decide) hj)).trans (hf2 j hj)))
              · have h1 := (wearB_z hnd hi).mp z25
                refine jd_aload_n dX4_yawn_182 rfl ?_
                refine jd_iload dX4_yawn_183 rfl ?_
                refine jd_iconst (v := 2) dX4_yawn_185 (by decide) ?_
                refine jd_callV (As := [.int (nI (qAt κ2 k_g p)), .int (2)]) (rest := []) (ct_X4_stepOut_2 hw22 (qAt κ2 k_g p) k_g p (show qAt κ2 k_g p < nS κ2 by omega) ((wearB_gate hnd hi).trans hqm.2.2.1) hg2 (wearB_place hnd hi rfl) hwl1 (show (gQue (k_wearB κ2 k_g (p + 1)) k_g).length ≤ 12 by omega) (fun j hj => by have := ((hIg k_g hg2).2.2.2.2.1 _ (wearB_m (qAt_mem hj))).1; exact Nat.lt_of_lt_of_le this (by omega)) hP24 hS12 hG8 (wearB_hst hI2) (fun q hq l hl => ((hIp q hq).2.1 l (wearB_st.symm.trans hl)).1)) (jd_rv (w_mthis hw22) 9 rfl rfl) rfl q1754 q1756 qs57 q90 q1757 nX4_stepOut dX4_yawn_186 rfl rfl rfl (Nat.le_of_ble_eq_true rfl) ⟨(Nat.le_of_ble_eq_true rfl), (Nat.le_of_ble_eq_true rfl), by omega, by omega⟩ (fun rv25 hn25 hq25 => ?_) jd_nox
                obtain ⟨rfl, hw25_, hf25_⟩ := hq25
                refine jd_iinc (v := (nI p + (-1))) (ls' := [_, _, _, _, _, _, _]) dX4_yawn_189 rfl (by first | rfl | decide) (Nat.le_of_ble_eq_true rfl) rfl rfl ?_
                refine jd_goto (tgt := 121) dX4_yawn_192 (by decide) ?_
                have hw3 : WM G γ (k_wearB κ2 k_g p) (mu_s μ 0 0 0) hn25 := by rw [← wearB_d hnd hi h1]; exact hw25_
                refine jd_lsub [some (.ref (γ 0 0)), some (.int (nI k_g)), some (.ref (γ 2 k_g)), some (.int (nI ((qAt κ k_g 0)))), some (.int (t)), some (.int ((nI p - 1))), none] ⟨rfl, rfl, rfl, rfl, rfl, (congrArg (fun x => some (Value.int x)) nI_m), trivial⟩ ?_
                exact ih121 p rfl (by omega) hn25 hw3 (fun j hj => ((hf25_ j hj).trans ((ho22 j (ll_nel (by decide) hj)).trans (hf2 j hj))))
          refine jd_lsub [some (.ref (γ 0 0)), some (.int (nI k_g)), some (.ref (γ 2 k_g)), some (.int (nI ((qAt κ k_g 0)))), some (.int (t)), some (.int ((nI ((gQue κ2 k_g).length) - 1))), none] ⟨rfl, rfl, rfl, rfl, rfl, rfl, trivial⟩ ?_
          exact lp121_16 (gQue κ2 k_g).length (gQue κ2 k_g).length rfl (Nat.le_refl _) hh0 (by rw [wearBn]; exact hw2) (fun j hj => rfl)
        refine jd_aload_n dX4_yawn_58 rfl ?_
        refine jd_dup dX4_yawn_59 rfl ?_
        refine jd_get in_X4 (w_mthis hw1) 5 q1471 dX4_yawn_60 rfl (Nat.le_of_ble_eq_true rfl) rfl ?_
        refine jd_iconst (v := 1) dX4_yawn_63 (by decide) ?_
        refine jd_iadd dX4_yawn_64 ?_
        refine jd_put (fs' := [_, _, _, _, _, _, _, _, _, _, _, _, _]) in_X4 tyX4_ok nmX4 (w_mthis hw1) 5 q1471 dX4_yawn_65 rfl (Nat.le_of_ble_eq_true rfl) rfl rfl rfl (Nat.le_of_ble_eq_true rfl) rfl ?_
        refine jd_updG (fun h27 hs27 ho27 => ?_)
        have hw27 := m_yawns hw1 (v := ((yawns κ) + 1)) hs27 ho27
        have hlqK : (gQue (ll_sz κ 6 2 (((yawns κ) + 1))) k_g).length = (gQue κ k_g).length := rfl
        have hqaK : qAt (ll_sz κ 6 2 (((yawns κ) + 1))) k_g 0 = qAt κ k_g 0 := rfl
        refine jd_aload_n dX4_yawn_68 rfl ?_
        refine jd_getN in_X8 ((w_mgate hw27) k_g (show k_g < nG κ by omega)) 6 q1555 dX4_yawn_69 rfl (Nat.le_of_ble_eq_true rfl) rfl ?_
        refine jd_iconst (v := 0) dX4_yawn_72 (by decide) ?_
        refine jd_top (w := .int (nI 0)) rfl ?_
        obtain ⟨mcq28, hqu28⟩ := w_mqueue hw27 k_g (show k_g < nG κ by omega)
        have hql28 := (hIg k_g (show k_g < nG κ by omega)).2.2.1
        have hbx29 := q_lt hI (g := k_g) (show k_g < nG κ by omega) (j := 0) (by omega)
        refine jd_pV (As := [.int (nI 0)]) (rest := []) (ct_J2_get hqu28 (by omega) (k := 0) (show 0 < (gQue (ll_sz κ 6 2 (((yawns κ) + 1))) k_g).length by omega)) (jd_rv hqu28 15 rfl rfl) rfl q1584 q325 q2001 q83 q327 nJ2_get dX4_yawn_73 rfl rfl rfl (Nat.le_of_ble_eq_true rfl) ⟨(Nat.le_of_ble_eq_true rfl), (Nat.le_of_ble_eq_true rfl)⟩ ?_
        refine jd_top (w := .ref (jd_bx G (qAt κ k_g 0))) rfl ?_
        refine jd_castS (jd_rvB (k := (qAt κ k_g 0) + 128) (by omega)) (ci := 20) rfl q1696 dX4_yawn_76 ?_
        refine jd_pV (As := []) (rest := []) (ct_J19_intValue (v := qAt κ k_g 0) (by omega)) (jd_rvB (k := (qAt κ k_g 0) + 128) (by omega)) rfl q1697 q1698 q1699 q115 q1700 nJ19_intValue dX4_yawn_79 rfl rfl rfl (Nat.le_of_ble_eq_true rfl) ⟨(Nat.le_of_ble_eq_true rfl), (Nat.le_of_ble_eq_true rfl)⟩ ?_
        refine jd_istore_n (ls' := [_, _, _, _, _, _, _]) dX4_yawn_82 (Nat.le_of_ble_eq_true rfl) rfl rfl ?_
        have hIy : ll_I (ll_sz κ 6 2 (((yawns κ) + 1))) := hI
        refine jd_aload_n dX4_yawn_83 rfl ?_
        refine jd_iload_n dX4_yawn_84 rfl ?_
        refine jd_iconst (v := 0) dX4_yawn_85 (by decide) ?_
        refine jd_callV (As := [.int (nI (qAt κ k_g 0)), .int (0)]) (rest := []) (ct_X4_stepOut_0 hw27 hIy (qAt κ k_g 0) k_g 0 (show (qAt κ k_g 0) < nS κ by omega) hqm.2.2.1 hk_g (yawn0_place (show 0 < (gQue κ k_g).length by omega)) (show 0 < (gQue κ k_g).length by omega)) (jd_rv (w_mthis hw27) 9 rfl rfl) rfl q1754 q1756 qs57 q90 q1757 nX4_stepOut dX4_yawn_86 rfl rfl rfl (Nat.le_of_ble_eq_true rfl) ⟨(Nat.le_of_ble_eq_true rfl), (Nat.le_of_ble_eq_true rfl), by omega, by omega⟩ (fun rv29 hn29 hq29 => ?_) jd_nox
        obtain ⟨rfl, hw29_, hf29_⟩ := hq29
        have hwY : WM G γ (k_yawn0 κ k_g) (mu_s μ 0 0 0) hn29 := by rw [← yawn0M rfl]; exact hw29_
        have hIy0 := I_yawn0 hI hk_g hq0
        refine jd_aload_n dX4_yawn_89 rfl ?_
        refine jd_iload_n dX4_yawn_90 rfl ?_
        refine jd_iload_n dX4_yawn_91 rfl ?_
        refine jd_pV (As := [.int (nI (qAt κ k_g 0)), .int (nI k_g)]) (rest := []) (ct_X4_isGoodNow hwY hIy0 (qAt κ k_g 0) k_g (show (qAt κ k_g 0) < nS κ by omega) hk_g) (jd_rv (w_mthis hwY) 9 rfl rfl) rfl q1768 q1770 qs58 q90 q1771 nX4_isGoodNow dX4_yawn_92 rfl rfl rfl (Nat.le_of_ble_eq_true rfl) ⟨(Nat.le_of_ble_eq_true rfl), (Nat.le_of_ble_eq_true rfl)⟩ ?_
        refine jd_bif_eq (tgt := 107) dX4_yawn_95 (by decide) (fun z31 => ?_) (fun z32 => ?_)
        · refine jd_iconst (v := (-1)) dX4_yawn_107 (by decide) ?_
          refine jd_istore (ls' := [_, _, _, _, _, _, _]) dX4_yawn_108 (Nat.le_of_ble_eq_true rfl) rfl rfl ?_
          refine jd_lsub [some (.ref (γ 0 0)), some (.int (nI k_g)), some (.ref (γ 2 k_g)), some (.int (nI ((qAt κ k_g 0)))), some (.int ((-1))), none, none] ⟨rfl, rfl, rfl, rfl, rfl, trivial⟩ ?_
          refine jd_wk (cb' := 0) (sb' := 0) ?_ (by omega) (by omega)
          exact w110 (k_yawn0 κ k_g) hn29 _ hwY hIy0 hk_g (fun h2 a b => (jd_mo.ok (γ' := γ) (μ' := (mu_s μ 0 0 0)) (by unfold c_yawn; (try simp only [hT_g]); rw [if_pos hcc4, if_pos ⟨hcc10, hcc14⟩]) (by simp only [hT_g]; exact congrArg Value.int (if_neg z31 : yawnVal κ k_g = _).symm) rfl (by simp only [hT_g]; rw [k_yawn, if_neg z31]; exact a) rfl (fun j hj => ((b j hj).trans ((hf29_ j hj).trans ((ho27 j (ll_nel (by decide) hj)).trans (ho1 j (ll_nel (by decide) hj))))))))
        · refine jd_aload_n dX4_yawn_98 rfl ?_
          refine jd_iload_n dX4_yawn_99 rfl ?_
          refine jd_aload_n dX4_yawn_100 rfl ?_
          refine jd_callV (As := [.int (nI (qAt κ k_g 0)), .ref (γ 2 k_g)]) (rest := []) (ct_X4_comeThrough hwY hIy0 (qAt κ k_g 0) k_g (sDecl κ (qAt κ k_g 0)) (show (qAt κ k_g 0) < nS κ by omega) hk_g hDm (yawn0_decl hI hk_g hq0).1 (yawn0_decl hI hk_g hq0).2) (jd_rv (w_mthis hwY) 9 rfl rfl) rfl q1777 q1779 qs59 q90 q1780 nX4_comeThrough dX4_yawn_101 rfl rfl rfl (Nat.le_of_ble_eq_true rfl) ⟨(Nat.le_of_ble_eq_true rfl), (Nat.le_of_ble_eq_true rfl), by omega, by omega⟩ (fun rv32 hn32 hq32 => ?_) jd_nox
          obtain ⟨rfl, hw32_, hf32_⟩ := hq32
          refine jd_goto (tgt := 108) dX4_yawn_104 (by decide) ?_
          refine jd_istore (ls' := [_, _, _, _, _, _, _]) dX4_yawn_108 (Nat.le_of_ble_eq_true rfl) rfl rfl ?_
          refine jd_lsub [some (.ref (γ 0 0)), some (.int (nI k_g)), some (.ref (γ 2 k_g)), some (.int (nI ((qAt κ k_g 0)))), some (.int ((caughtN (k_yawn0 κ k_g) (qAt κ k_g 0) k_g (sDecl κ (qAt κ k_g 0))))), none, none] ⟨rfl, rfl, rfl, rfl, rfl, trivial⟩ ?_
          refine jd_wk (cb' := 0) (sb' := 0) ?_ (by omega) (by omega)
          exact w110 (k_cross (k_yawn0 κ k_g) (qAt κ k_g 0) k_g (sDecl κ (qAt κ k_g 0))) hn32 _ hw32_ (I_yawn1 hI hk_g hq0) (show k_g < nG (k_cross _ _ _ _) by rw [cross_g]; exact hk_g) (fun h2 a b => (jd_mo.ok (γ' := γ) (μ' := (mu_s μ 0 0 0)) (by unfold c_yawn; (try simp only [hT_g]); rw [if_pos hcc4, if_pos ⟨hcc10, hcc14⟩]) (by simp only [hT_g]; exact congrArg Value.int (if_pos z32 : yawnVal κ k_g = _).symm) rfl (by simp only [hT_g]; rw [k_yawn, if_pos z32]; exact a) rfl (fun j hj => ((b j hj).trans ((hf32_ j hj).trans ((hf29_ j hj).trans ((ho27 j (ll_nel (by decide) hj)).trans (ho1 j (ll_nel (by decide) hj)))))))))
      · have hcc34 := (not_not_intro z13)
        refine jd_aload_n dX4_yawn_52 rfl ?_
        refine jd_iconst (v := 2) dX4_yawn_53 (by decide) ?_
        refine jd_callV (As := [.int (2)]) (rest := []) (ct_X4_refuse hw1 (2)) (jd_rv (w_mthis hw1) 9 rfl rfl) rfl q1521 q1523 qs50 q90 q1524 nX4_refuse dX4_yawn_54 rfl rfl rfl (Nat.le_of_ble_eq_true rfl) ⟨(Nat.le_of_ble_eq_true rfl), (Nat.le_of_ble_eq_true rfl), by omega, by omega⟩ (fun rv34 hn34 hq34 => ?_) jd_nox
        obtain ⟨rfl, hw34_, hf34_⟩ := hq34
        exact jd_iret dX4_yawn_57 rfl (jd_mo.no (γ' := γ) (μ' := (mu_s (mu_s μ 0 0 0) 0 0 2)) (k := 2) (by unfold c_yawn; (try simp only [hT_g]); rw [if_pos hcc4, if_neg (fun w => hcc34 w.2)]) (by decide) rfl hw34_ rfl (fun j hj => ((hf34_ j hj).trans (ho1 j (ll_nel (by decide) hj)))))
  · have hcc36 := z3
    refine jd_aload_n dX4_yawn_13 rfl ?_
    refine jd_iconst (v := 1) dX4_yawn_14 (by decide) ?_
    refine jd_callV (As := [.int (1)]) (rest := []) (ct_X4_refuse hw1 (1)) (jd_rv (w_mthis hw1) 9 rfl rfl) rfl q1521 q1523 qs50 q90 q1524 nX4_refuse dX4_yawn_15 rfl rfl rfl (Nat.le_of_ble_eq_true rfl) ⟨(Nat.le_of_ble_eq_true rfl), (Nat.le_of_ble_eq_true rfl), by omega, by omega⟩ (fun rv36 hn36 hq36 => ?_) jd_nox
    obtain ⟨rfl, hw36_, hf36_⟩ := hq36
    exact jd_iret dX4_yawn_18 rfl (jd_mo.no (γ' := γ) (μ' := (mu_s (mu_s μ 0 0 0) 0 0 1)) (k := 1) (by unfold c_yawn; rw [if_neg hcc36]) (by decide) rfl hw36_ rfl (fun j hj => ((hf36_ j hj).trans (ho1 j (ll_nel (by decide) hj)))))
