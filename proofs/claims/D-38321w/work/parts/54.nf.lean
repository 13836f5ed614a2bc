/-! the model: queues (printed by mk_c.py) -/
set_option maxRecDepth 20000 in
set_option maxHeartbeats 2000000 in
theorem ct_X4_join {G : jd_G} {γ : ll_B} {κ : ll_K} {μ : ll_U} {h : jd_H} (hw : WM G γ κ μ h) (hI : ll_I κ) (s : Int32) (g : Int32) (d : Int32) : jd_Ct G mX4_join 11 (1) (28) [.ref (γ 0 0), .int (s), .int (g), .int (d)] h (jd_mo G γ κ h (c_join κ s g d) (.int (nI (enterAt κ (tN g) (tN s)))) (k_join κ (tN s) (tN g) d)) jd_no := by
  obtain ⟨⟨hG8, hS12, hP24, hH40, hN99, hH24⟩, hIg, hIs, hIp, hIh, hIl, hIq⟩ := id hI
  obtain ⟨mcG, hlG⟩ := w_mgates hw
  obtain ⟨mcS, hlS⟩ := w_msleepers hw
  obtain ⟨mcP, hlP⟩ := w_mparts hw
  obtain ⟨mcH, hlH⟩ := w_mhidings hw
  refine jd_ct (ls := [some (.ref (γ 0 0)), some (.int (s)), some (.int (g)), some (.int (d)), none, none, none]) rfl rfl (by decide) (Nat.le_of_ble_eq_true rfl) rfl ?_
  refine jd_aload_n dX4_join_0 rfl ?_
  refine jd_iconst (v := 0) dX4_join_1 (by decide) ?_
  refine jd_put (fs' := [_, _, _, _, _, _, _, _, _, _, _, _, _]) in_X4 tyX4_ok nmX4 (w_mthis hw) 0 q1466 dX4_join_2 rfl (Nat.le_of_ble_eq_true rfl) rfl rfl rfl (Nat.le_of_ble_eq_true rfl) rfl ?_
  refine jd_updG (fun h1 hs1 ho1 => ?_)
  have hw1 := m_thrown hw (v := 0) hs1 ho1
  refine jd_aload_n dX4_join_5 rfl ?_
  refine jd_iload_n dX4_join_6 rfl ?_
  refine jd_pV (As := [.int (s)]) (rest := []) (ct_X4_isSleeper hw1 hI (s)) (jd_rv (w_mthis hw1) 9 rfl rfl) rfl q1634 q1636 qs52 q90 q1637 nX4_isSleeper dX4_join_7 rfl rfl rfl (Nat.le_of_ble_eq_true rfl) ⟨(Nat.le_of_ble_eq_true rfl), (Nat.le_of_ble_eq_true rfl)⟩ ?_
  refine jd_bif_eq (tgt := 21) dX4_join_10 (by decide) (fun z2 => ?_) (fun z3 => ?_)
  · have hcc4 := z2
    refine jd_aload_n dX4_join_21 rfl ?_
    refine jd_iconst (v := 1) dX4_join_22 (by decide) ?_
    refine jd_callV (As := [.int (1)]) (rest := []) (ct_X4_refuse hw1 (1)) (jd_rv (w_mthis hw1) 9 rfl rfl) rfl q1521 q1523 qs50 q90 q1524 nX4_refuse dX4_join_23 rfl rfl rfl (Nat.le_of_ble_eq_true rfl) ⟨(Nat.le_of_ble_eq_true rfl), (Nat.le_of_ble_eq_true rfl), by omega, by omega⟩ (fun rv4 hn4 hq4 => ?_) jd_nox
    obtain ⟨rfl, hw4_, hf4_⟩ := hq4
    exact jd_iret dX4_join_26 rfl (jd_mo.no (γ' := γ) (μ' := (mu_s (mu_s μ 0 0 0) 0 0 1)) (k := 1) (by unfold c_join; rw [if_neg hcc4]) (by decide) rfl hw4_ rfl (fun j hj => ((hf4_ j hj).trans (ho1 j (ll_nel (by decide) hj)))))
  · have hcc6 := z3
    obtain ⟨k_s, hk_s, rfl⟩ := inN_ex (n := (nS κ)) (by omega) hcc6
    have hT_s := tN_nI (show k_s < 2 ^ 31 by omega)
    refine jd_aload_n dX4_join_13 rfl ?_
    refine jd_iload_n dX4_join_14 rfl ?_
    refine jd_pV (As := [.int (g)]) (rest := []) (ct_X4_isGate hw1 hI (g)) (jd_rv (w_mthis hw1) 9 rfl rfl) rfl q1580 q1582 qs51 q90 q1583 nX4_isGate dX4_join_15 rfl rfl rfl (Nat.le_of_ble_eq_true rfl) ⟨(Nat.le_of_ble_eq_true rfl), (Nat.le_of_ble_eq_true rfl)⟩ ?_
    refine jd_bif_ne (tgt := 27) dX4_join_18 (by decide) (fun z7 => ?_) (fun z8 => ?_)
    · have hcc9 := z7
      obtain ⟨k_g, hk_g, rfl⟩ := inN_ex (n := (nG κ)) (by omega) hcc9
      have hT_g := tN_nI (show k_g < 2 ^ 31 by omega)
      refine jd_iload_n dX4_join_27 rfl ?_
      refine jd_if_lt (tgt := 43) dX4_join_28 (by decide) (fun z10 => ?_) (fun z11 => ?_)
      · have hcc12 := (not_not_intro z10)
        refine jd_aload_n dX4_join_43 rfl ?_
        refine jd_iconst (v := 2) dX4_join_44 (by decide) ?_
        refine jd_callV (As := [.int (2)]) (rest := []) (ct_X4_refuse hw1 (2)) (jd_rv (w_mthis hw1) 9 rfl rfl) rfl q1521 q1523 qs50 q90 q1524 nX4_refuse dX4_join_45 rfl rfl rfl (Nat.le_of_ble_eq_true rfl) ⟨(Nat.le_of_ble_eq_true rfl), (Nat.le_of_ble_eq_true rfl), by omega, by omega⟩ (fun rv12 hn12 hq12 => ?_) jd_nox
        obtain ⟨rfl, hw12_, hf12_⟩ := hq12
        exact jd_iret dX4_join_48 rfl (jd_mo.no (γ' := γ) (μ' := (mu_s (mu_s μ 0 0 0) 0 0 2)) (k := 2) (by unfold c_join; (try simp only [hT_s, hT_g]); rw [if_pos hcc6, if_pos hcc9, if_neg (fun w => hcc12 w.1)]) (by decide) rfl hw12_ rfl (fun j hj => ((hf12_ j hj).trans (ho1 j (ll_nel (by decide) hj)))))
      · have hcc14 := z11
        refine jd_iload_n dX4_join_31 rfl ?_
        refine jd_aload_n dX4_join_32 rfl ?_
        refine jd_iload_n dX4_join_33 rfl ?_
        refine jd_pV (As := [.int (nI k_s)]) (rest := [.int (d)]) (ct_X4_head hw1 hI (k_s) (by omega)) (jd_rv (w_mthis hw1) 9 rfl rfl) rfl q1688 q1690 qs54 q90 q1691 nX4_head dX4_join_34 rfl rfl rfl (Nat.le_of_ble_eq_true rfl) ⟨(Nat.le_of_ble_eq_true rfl), (Nat.le_of_ble_eq_true rfl)⟩ ?_
        refine jd_iconst (v := (-1)) dX4_join_37 (by decide) ?_
        refine jd_ixor dX4_join_38 ?_
        refine jd_iand dX4_join_39 ?_
        refine jd_if_eq (tgt := 49) dX4_join_40 (by decide) (fun z15 => ?_) (fun z16 => ?_)
        · have hcc17 := z15
          refine jd_aload_n dX4_join_49 rfl ?_
          refine jd_get in_X4 (w_mthis hw1) 8 q1474 dX4_join_50 rfl (Nat.le_of_ble_eq_true rfl) rfl ?_
          refine jd_iload_n dX4_join_53 rfl ?_
          obtain ⟨mcl18, hl18_⟩ := w_msleepers hw1
          refine jd_pV (As := [.int (nI k_s)]) (rest := []) (ct_J2_get hl18_ (show nS κ ≤ 900 by omega) (k := k_s) (show k_s < nS κ by omega)) (jd_rv hl18_ 15 rfl rfl) rfl q1584 q325 q2001 q83 q327 nJ2_get dX4_join_54 rfl rfl rfl (Nat.le_of_ble_eq_true rfl) ⟨(Nat.le_of_ble_eq_true rfl), (Nat.le_of_ble_eq_true rfl)⟩ ?_
          refine jd_castS (jd_rv ((w_msleeper hw1) k_s (show k_s < nS κ by omega)) 12 rfl rfl) (ci := 12) rfl q1593 dX4_join_57 ?_
          refine jd_astore (ls' := [_, _, _, _, _, _, _]) dX4_join_60 (Nat.le_of_ble_eq_true rfl) rfl rfl ?_
          refine jd_aload_n dX4_join_62 rfl ?_
          refine jd_get in_X4 (w_mthis hw1) 7 q1473 dX4_join_63 rfl (Nat.le_of_ble_eq_true rfl) rfl ?_
          refine jd_iload_n dX4_join_66 rfl ?_
          obtain ⟨mcl19, hl19_⟩ := w_mgates hw1
          refine jd_pV (As := [.int (nI k_g)]) (rest := []) (ct_J2_get hl19_ (show nG κ ≤ 900 by omega) (k := k_g) (show k_g < nG κ by omega)) (jd_rv hl19_ 15 rfl rfl) rfl q1584 q325 q2001 q83 q327 nJ2_get dX4_join_67 rfl rfl rfl (Nat.le_of_ble_eq_true rfl) ⟨(Nat.le_of_ble_eq_true rfl), (Nat.le_of_ble_eq_true rfl)⟩ ?_
          refine jd_castS (jd_rv ((w_mgate hw1) k_g (show k_g < nG κ by omega)) 11 rfl rfl) (ci := 11) rfl q1534 dX4_join_70 ?_
          refine jd_astore (ls' := [_, _, _, _, _, _, _]) dX4_join_73 (Nat.le_of_ble_eq_true rfl) rfl rfl ?_
          have hsX := hIs k_s hk_s
          have hsX1 := hsX.1
          have hsX2 := hsX.2.1
          have hgX := hIg k_g hk_g
          have hqX := hgX.2.2.1
          refine jd_aload dX4_join_75 rfl ?_
          refine jd_getN in_X10 ((w_msleeper hw1) k_s (show k_s < nS κ by omega)) 3 q1602 dX4_join_77 rfl (Nat.le_of_ble_eq_true rfl) rfl ?_
          refine jd_nif_ne (a := (sRest κ k_s)) (tgt := 96) dX4_join_80 (by decide) (by omega) (fun z20 => ?_) (fun z21 => ?_)
          · have hcc22 := z20
            refine jd_aload_n dX4_join_96 rfl ?_
            refine jd_iconst (v := 3) dX4_join_97 (by decide) ?_
            refine jd_callV (As := [.int (3)]) (rest := []) (ct_X4_refuse hw1 (3)) (jd_rv (w_mthis hw1) 9 rfl rfl) rfl q1521 q1523 qs50 q90 q1524 nX4_refuse dX4_join_98 rfl rfl rfl (Nat.le_of_ble_eq_true rfl) ⟨(Nat.le_of_ble_eq_true rfl), (Nat.le_of_ble_eq_true rfl), by omega, by omega⟩ (fun rv22 hn22 hq22 => ?_) jd_nox
            obtain ⟨rfl, hw22_, hf22_⟩ := hq22
            exact jd_iret dX4_join_101 rfl (jd_mo.no (γ' := γ) (μ' := (mu_s (mu_s μ 0 0 0) 0 0 3)) (k := 3) (by unfold c_join; (try simp only [hT_s, hT_g]); rw [if_pos hcc6, if_pos hcc9, if_pos ⟨hcc14, hcc17⟩, if_neg (fun w => hcc22 w.1)]) (by decide) rfl hw22_ rfl (fun j hj => ((hf22_ j hj).trans (ho1 j (ll_nel (by decide) hj)))))
          · have hcc24 := z21
            refine jd_aload dX4_join_83 rfl ?_
            refine jd_aload dX4_join_85 rfl ?_
            refine jd_getN in_X10 ((w_msleeper hw1) k_s (show k_s < nS κ by omega)) 0 q1599 dX4_join_87 rfl (Nat.le_of_ble_eq_true rfl) rfl ?_
            refine jd_pV (As := [.int (nI ((sLand κ k_s)))]) (rest := []) (ct_X8_has ((w_mgate hw1) k_g (show k_g < nG κ by omega)) (nI ((sLand κ k_s)))) (jd_rv ((w_mgate hw1) k_g (show k_g < nG κ by omega)) 11 rfl rfl) rfl q1692 q1693 q1694 q104 q1695 nX8_has dX4_join_90 rfl rfl rfl (Nat.le_of_ble_eq_true rfl) ⟨(Nat.le_of_ble_eq_true rfl), (Nat.le_of_ble_eq_true rfl)⟩ ?_
            refine jd_bif_ne (tgt := 102) dX4_join_93 (by decide) (fun z25 => ?_) (fun z26 => ?_)
            · have hcc27 := z25
              have hele := enter_le (κ := κ) (g := k_g) (s := k_s)
              refine jd_aload dX4_join_102 rfl ?_
              refine jd_getN in_X8 ((w_mgate hw1) k_g (show k_g < nG κ by omega)) 6 q1555 dX4_join_104 rfl (Nat.le_of_ble_eq_true rfl) rfl ?_
              obtain ⟨mcq28, hqu28⟩ := w_mqueue hw1 k_g (show k_g < nG κ by omega)
              have hql28 := (hIg k_g (show k_g < nG κ by omega)).2.2.1
              refine jd_pV (As := []) (rest := []) (ct_J2_size hqu28 (by omega)) (jd_rv hqu28 15 rfl rfl) rfl q1533 q344 q1999 q83 q346 nJ2_size dX4_join_107 rfl rfl rfl (Nat.le_of_ble_eq_true rfl) ⟨(Nat.le_of_ble_eq_true rfl), (Nat.le_of_ble_eq_true rfl)⟩ ?_
              refine jd_istore (ls' := [_, _, _, _, _, _, _]) dX4_join_110 (Nat.le_of_ble_eq_true rfl) rfl rfl ?_
              have lp112_29 : ∀ (j : Nat) (pl : Nat) (hpl : pl = (enterAt κ k_g k_s) + j) (hple : pl ≤ (gQue κ k_g).length), jd_W G mX4_join 11 (1) (28) 112 [some (.ref (γ 0 0)), some (.int (nI k_s)), some (.int (nI k_g)), some (.int (d)), some (.ref (γ 5 k_s)), some (.ref (γ 2 k_g)), some (.int (nI pl))] [] h1 (jd_mo G γ κ h (c_join κ (nI k_s) (nI k_g) d) (.int (nI (enterAt κ (tN (nI k_g)) (tN (nI k_s))))) (k_join κ (tN (nI k_s)) (tN (nI k_g)) d)) jd_no := by
                intro j
                induction j with
                | zero =>
                  intro pl hpl hple
                  refine jd_aload dX4_join_112 rfl ?_
                  refine jd_getN in_X10 ((w_msleeper hw1) k_s (show k_s < nS κ by omega)) 1 q1600 dX4_join_114 rfl (Nat.le_of_ble_eq_true rfl) rfl ?_
                  refine jd_bif_eq (tgt := 165) dX4_join_117 (by decide) (fun z30 => ?_) (fun z31 => ?_)
                  · refine jd_lsub [some (.ref (γ 0 0)), some (.int (nI k_s)), some (.int (nI k_g)), some (.int (d)), some (.ref (γ 5 k_s)), some (.ref (γ 2 k_g)), some (.int (nI ((enterAt κ k_g k_s))))] ⟨rfl, rfl, rfl, rfl, rfl, rfl, (congrArg (fun x => some (Value.int x)) (congrArg nI (by omega : pl = enterAt κ k_g k_s))), trivial⟩ ?_
                    refine jd_aload dX4_join_165 rfl ?_
                    refine jd_getN in_X8 ((w_mgate hw1) k_g (show k_g < nG κ by omega)) 6 q1555 dX4_join_167 rfl (Nat.le_of_ble_eq_true rfl) rfl ?_
                    refine jd_iload dX4_join_170 rfl ?_
                    refine jd_iload_n dX4_join_172 rfl ?_
                    refine jd_pS (As := [.int (nI k_s)]) (rest := [.int (nI ((enterAt κ k_g k_s))), .ref (γ 3 k_g)]) (ct_J19_valueOf (v := k_s) (by omega)) rfl q1701 q1702 q115 q1703 nJ19_valueOf dX4_join_173 rfl rfl (Nat.le_of_ble_eq_true rfl) ⟨(Nat.le_of_ble_eq_true rfl), (Nat.le_of_ble_eq_true rfl)⟩ ?_
                    refine jd_callV (As := [.int (nI ((enterAt κ k_g k_s))), .ref (jd_bx G k_s)]) (rest := []) (ct_J2_add_3 hqu28 (show (gQue κ k_g).length ≤ 600 by omega) (x := jd_bx G k_s) (k := (enterAt κ k_g k_s)) (Cn := "java/lang/Integer") enter_le q2027 (fun i hi => jd_bx_Ob (show qAt κ k_g i < 128 from by have := q_lt hI hk_g (j := i) hi; omega)) (jd_bx_Ob (by omega))) (jd_rv hqu28 15 rfl rfl) rfl q1721 q1722 q1723 q83 q1724 nJ2_add_3 dX4_join_176 rfl rfl rfl (Nat.le_of_ble_eq_true rfl) ⟨(Nat.le_of_ble_eq_true rfl), (Nat.le_of_ble_eq_true rfl), by omega, by omega⟩ (fun rv31 hn31 hq31 => ?_) jd_nox
                    obtain ⟨rfl, he31⟩ := hq31
                    rw [he31]
                    refine jd_updG (fun h31 hs31 ho31 => ?_)
                    have hw31_ := m_gQue hw1 (k := k_g) (show k_g < nG κ by omega) (ins_len enter_le).symm (ins_fun (jd_bx G) enter_le) hs31 ho31
                    refine jd_aload dX4_join_179 rfl ?_
                    refine jd_iconst (v := 1) dX4_join_181 (by decide) ?_
                    refine jd_putN (fs' := [_, _, _, _, _, _, _, _, _]) in_X10 tyX10_ok nmX10 ((w_msleeper hw31_) k_s (show k_s < nS κ by omega)) 3 q1602 dX4_join_182 rfl (Nat.le_of_ble_eq_true rfl) rfl rfl rfl (Nat.le_of_ble_eq_true rfl) rfl ?_
                    refine jd_updG (fun h33 hs33 ho33 => ?_)
                    have hw33 := m_sRest hw31_ (k := k_s) (show k_s < nS κ by omega) (v := 1) (d := ((mu_s μ 0 0 0).1 2 k_s)) (fun _ => rfl) hs33 ho33
                    refine jd_aload dX4_join_185 rfl ?_
                    refine jd_iload_n dX4_join_187 rfl ?_
                    refine jd_putN (fs' := [_, _, _, _, _, _, _, _, _]) in_X10 tyX10_ok nmX10 ((w_msleeper hw33) k_s (show k_s < nS κ by omega)) 4 q1604 dX4_join_188 rfl (Nat.le_of_ble_eq_true rfl) rfl rfl rfl (Nat.le_of_ble_eq_true rfl) rfl ?_
                    refine jd_updG (fun h34 hs34 ho34 => ?_)
                    have hw34 := m_sGate hw33 (k := k_s) (show k_s < nS κ by omega) (v := some k_g) hs34 ho34
                    refine jd_aload dX4_join_191 rfl ?_
                    refine jd_iload_n dX4_join_193 rfl ?_
                    refine jd_putN (fs' := [_, _, _, _, _, _, _, _, _]) in_X10 tyX10_ok nmX10 ((w_msleeper hw34) k_s (show k_s < nS κ by omega)) 5 q1605 dX4_join_194 rfl (Nat.le_of_ble_eq_true rfl) rfl rfl rfl (Nat.le_of_ble_eq_true rfl) rfl ?_
                    refine jd_updG (fun h35 hs35 ho35 => ?_)
                    have hw35 := m_sDecl hw34 (k := k_s) (show k_s < nS κ by omega) (v := d) hs35 ho35
                    refine jd_iload dX4_join_197 rfl ?_
                    exact jd_iret dX4_join_199 rfl (jd_mo.ok (γ' := γ) (μ' := (mu_s (mu_s μ 0 0 0) 2 k_s d)) (by unfold c_join; (try simp only [hT_s, hT_g]); rw [if_pos hcc6, if_pos hcc9, if_pos ⟨hcc14, hcc17⟩, if_pos ⟨hcc24, hcc27⟩]) (by first | (simp only [hT_s, hT_g]; done) | (simp only [hT_s, hT_g]; rfl) | rfl) rfl (by simp only [hT_s, hT_g]; have := hw35; rw [join_eq] at this; exact this) rfl (fun j hj => ((ho35 j (ll_nel (by decide) hj)).trans ((ho34 j (ll_nel (by decide) hj)).trans ((ho33 j (ll_nel (by decide) hj)).trans ((ho31 j (ll_nel (by decide) hj)).trans (ho1 j (ll_nel (by decide) hj))))))))
                  · have hbb := z31
                    refine jd_iload dX4_join_120 rfl ?_
                    refine jd_nif_le (a := pl) (tgt := 165) dX4_join_122 (by decide) (by omega) (fun z36 => ?_) (fun z37 => ?_)
                    · refine jd_lsub [some (.ref (γ 0 0)), some (.int (nI k_s)), some (.int (nI k_g)), some (.int (d)), some (.ref (γ 5 k_s)), some (.ref (γ 2 k_g)), some (.int (nI ((enterAt κ k_g k_s))))] ⟨rfl, rfl, rfl, rfl, rfl, rfl, (congrArg (fun x => some (Value.int x)) (congrArg nI (by omega : pl = enterAt κ k_g k_s))), trivial⟩ ?_
                      refine jd_aload dX4_join_165 rfl ?_
                      refine jd_getN in_X8 ((w_mgate hw1) k_g (show k_g < nG κ by omega)) 6 q1555 dX4_join_167 rfl (Nat.le_of_ble_eq_true rfl) rfl ?_
                      refine jd_iload dX4_join_170 rfl ?_
                      refine jd_iload_n dX4_join_172 rfl ?_
                      refine jd_pS (As := [.int (nI k_s)]) (rest := [.int (nI ((enterAt κ k_g k_s))), .ref (γ 3 k_g)]) (ct_J19_valueOf (v := k_s) (by omega)) rfl q1701 q1702 q115 q1703 nJ19_valueOf dX4_join_173 rfl rfl (Nat.le_of_ble_eq_true rfl) ⟨(Nat.le_of_ble_eq_true rfl), (Nat.le_of_ble_eq_true rfl)⟩ ?_
                      refine jd_callV (As := [.int (nI ((enterAt κ k_g k_s))), .ref (jd_bx G k_s)]) (rest := []) (ct_J2_add_3 hqu28 (show (gQue κ k_g).length ≤ 600 by omega) (x := jd_bx G k_s) (k := (enterAt κ k_g k_s)) (Cn := "java/lang/Integer") enter_le q2027 (fun i hi => jd_bx_Ob (show qAt κ k_g i < 128 from by have := q_lt hI hk_g (j := i) hi; omega)) (jd_bx_Ob (by omega))) (jd_rv hqu28 15 rfl rfl) rfl q1721 q1722 q1723 q83 q1724 nJ2_add_3 dX4_join_176 rfl rfl rfl (Nat.le_of_ble_eq_true rfl) ⟨(Nat.le_of_ble_eq_true rfl), (Nat.le_of_ble_eq_true rfl), by omega, by omega⟩ (fun rv37 hn37 hq37 => ?_) jd_nox
                      obtain ⟨rfl, he37⟩ := hq37
                      rw [he37]
                      refine jd_updG (fun h37 hs37 ho37 => ?_)
                      have hw37_ := m_gQue hw1 (k := k_g) (show k_g < nG κ by omega) (ins_len enter_le).symm (ins_fun (jd_bx G) enter_le) hs37 ho37
                      refine jd_aload dX4_join_179 rfl ?_
                      refine jd_iconst (v := 1) dX4_join_181 (by decide) ?_
                      refine jd_putN (fs' := [_, _, _, _, _, _, _, _, _]) in_X10 tyX10_ok nmX10 ((w_msleeper hw37_) k_s (show k_s < nS κ by omega)) 3 q1602 dX4_join_182 rfl (Nat.le_of_ble_eq_true rfl) rfl rfl rfl (Nat.le_of_ble_eq_true rfl) rfl ?_
                      refine jd_updG (fun h39 hs39 ho39 => ?_)
                      have hw39 := m_sRest hw37_ (k := k_s) (show k_s < nS κ by omega) (v := 1) (d := ((mu_s μ 0 0 0).1 2 k_s)) (fun _ => rfl) hs39 ho39
                      refine jd_aload dX4_join_185 rfl ?_
                      refine jd_iload_n dX4_join_187 rfl ?_
                      refine jd_putN (fs' := [_, _, _, _, _, _, _, _, _]) in_X10 tyX10_ok nmX10 ((w_msleeper hw39) k_s (show k_s < nS κ by omega)) 4 q1604 dX4_join_188 rfl (Nat.le_of_ble_eq_true rfl) rfl rfl rfl (Nat.le_of_ble_eq_true rfl) rfl ?_
                      refine jd_updG (fun h40 hs40 ho40 => ?_)
                      have hw40 := m_sGate hw39 (k := k_s) (show k_s < nS κ by omega) (v := some k_g) hs40 ho40
                      refine jd_aload dX4_join_191 rfl ?_
                      refine jd_iload_n dX4_join_193 rfl ?_
                      refine jd_putN (fs' := [_, _, _, _, _, _, _, _, _]) in_X10 tyX10_ok nmX10 ((w_msleeper hw40) k_s (show k_s < nS κ by omega)) 5 q1605 dX4_join_194 rfl (Nat.le_of_ble_eq_true rfl) rfl rfl rfl (Nat.le_of_ble_eq_true rfl) rfl ?_
                      refine jd_updG (fun h41 hs41 ho41 => ?_)
                      have hw41 := m_sDecl hw40 (k := k_s) (show k_s < nS κ by omega) (v := d) hs41 ho41
                      refine jd_iload dX4_join_197 rfl ?_
                      exact jd_iret dX4_join_199 rfl (jd_mo.ok (γ' := γ) (μ' := (mu_s (mu_s μ 0 0 0) 2 k_s d)) (by unfold c_join; (try simp only [hT_s, hT_g]); rw [if_pos hcc6, if_pos hcc9, if_pos ⟨hcc14, hcc17⟩, if_pos ⟨hcc24, hcc27⟩]) (by first | (simp only [hT_s, hT_g]; done) | (simp only [hT_s, hT_g]; rfl) | rfl) rfl (by simp only [hT_s, hT_g]; have := hw41; rw [join_eq] at this; exact this) rfl (fun j hj => ((ho41 j (ll_nel (by decide) hj)).trans ((ho40 j (ll_nel (by decide) hj)).trans ((ho39 j (ll_nel (by decide) hj)).trans ((ho37 j (ll_nel (by decide) hj)).trans (ho1 j (ll_nel (by decide) hj))))))))
                    · refine jd_aload_n dX4_join_125 rfl ?_
                      refine jd_get in_X4 (w_mthis hw1) 8 q1474 dX4_join_126 rfl (Nat.le_of_ble_eq_true rfl) rfl ?_
                      refine jd_aload dX4_join_129 rfl ?_
                      refine jd_getN in_X8 ((w_mgate hw1) k_g (show k_g < nG κ by omega)) 6 q1555 dX4_join_131 rfl (Nat.le_of_ble_eq_true rfl) rfl ?_
                      refine jd_iload dX4_join_134 rfl ?_
                      refine jd_iconst (v := 1) dX4_join_136 (by decide) ?_
                      refine jd_isubN (a := pl) (b := 1) dX4_join_137 (by omega) ?_
                      have hbx42 := q_lt hI (g := k_g) (show k_g < nG κ by omega) (j := (pl - 1)) (by omega)
                      refine jd_pV (As := [.int (nI ((pl - 1)))]) (rest := [.ref (γ 0 3)]) (ct_J2_get hqu28 (by omega) (k := (pl - 1)) (show (pl - 1) < (gQue κ k_g).length by omega)) (jd_rv hqu28 15 rfl rfl) rfl q1584 q325 q2001 q83 q327 nJ2_get dX4_join_138 rfl rfl rfl (Nat.le_of_ble_eq_true rfl) ⟨(Nat.le_of_ble_eq_true rfl), (Nat.le_of_ble_eq_true rfl)⟩ ?_
                      refine jd_castS (jd_rvB (k := (qAt κ k_g ((pl - 1))) + 128) (by omega)) (ci := 20) rfl q1696 dX4_join_141 ?_
                      refine jd_pV (As := []) (rest := [.ref (γ 0 3)]) (ct_J19_intValue (v := qAt κ k_g ((pl - 1))) (by omega)) (jd_rvB (k := (qAt κ k_g ((pl - 1))) + 128) (by omega)) rfl q1697 q1698 q1699 q115 q1700 nJ19_intValue dX4_join_144 rfl rfl rfl (Nat.le_of_ble_eq_true rfl) ⟨(Nat.le_of_ble_eq_true rfl), (Nat.le_of_ble_eq_true rfl)⟩ ?_
                      refine jd_pV (As := [.int (nI (qAt κ k_g ((pl - 1))))]) (rest := []) (ct_J2_get hl18_ (show nS κ ≤ 900 by omega) (k := qAt κ k_g ((pl - 1))) (show qAt κ k_g ((pl - 1)) < nS κ by omega)) (jd_rv hl18_ 15 rfl rfl) rfl q1584 q325 q2001 q83 q327 nJ2_get dX4_join_147 rfl rfl rfl (Nat.le_of_ble_eq_true rfl) ⟨(Nat.le_of_ble_eq_true rfl), (Nat.le_of_ble_eq_true rfl)⟩ ?_
                      refine jd_castS (jd_rv ((w_msleeper hw1) (qAt κ k_g ((pl - 1))) (show qAt κ k_g ((pl - 1)) < nS κ by omega)) 12 rfl rfl) (ci := 12) rfl q1593 dX4_join_150 ?_
                      refine jd_getN in_X10 ((w_msleeper hw1) (qAt κ k_g ((pl - 1))) (show qAt κ k_g ((pl - 1)) < nS κ by omega)) 1 q1600 dX4_join_153 rfl (Nat.le_of_ble_eq_true rfl) rfl ?_
                      refine jd_bif_ne (tgt := 165) dX4_join_156 (by decide) (fun z43 => ?_) (fun z44 => ?_)
                      · refine jd_lsub [some (.ref (γ 0 0)), some (.int (nI k_s)), some (.int (nI k_g)), some (.int (d)), some (.ref (γ 5 k_s)), some (.ref (γ 2 k_g)), some (.int (nI ((enterAt κ k_g k_s))))] ⟨rfl, rfl, rfl, rfl, rfl, rfl, (congrArg (fun x => some (Value.int x)) (congrArg nI (by omega : pl = enterAt κ k_g k_s))), trivial⟩ ?_
                        refine jd_aload dX4_join_165 rfl ?_
                        refine jd_getN in_X8 ((w_mgate hw1) k_g (show k_g < nG κ by omega)) 6 q1555 dX4_join_167 rfl (Nat.le_of_ble_eq_true rfl) rfl ?_
                        refine jd_iload dX4_join_170 rfl ?_
                        refine jd_iload_n dX4_join_172 rfl ?_
                        refine jd_pS (As := [.int (nI k_s)]) (rest := [.int (nI ((enterAt κ k_g k_s))), .ref (γ 3 k_g)]) (ct_J19_valueOf (v := k_s) (by omega)) rfl q1701 q1702 q115 q1703 nJ19_valueOf dX4_join_173 rfl rfl (Nat.le_of_ble_eq_true rfl) ⟨(Nat.le_of_ble_eq_true rfl), (Nat.le_of_ble_eq_true rfl)⟩ ?_
                        refine jd_callV (As := [.int (nI ((enterAt κ k_g k_s))), .ref (jd_bx G k_s)]) (rest := []) (ct_J2_add_3 hqu28 (show (gQue κ k_g).length ≤ 600 by omega) (x := jd_bx G k_s) (k := (enterAt κ k_g k_s)) (Cn := "java/lang/Integer") enter_le q2027 (fun i hi => jd_bx_Ob (show qAt κ k_g i < 128 from by have := q_lt hI hk_g (j := i) hi; omega)) (jd_bx_Ob (by omega))) (jd_rv hqu28 15 rfl rfl) rfl q1721 q1722 q1723 q83 q1724 nJ2_add_3 dX4_join_176 rfl rfl rfl (Nat.le_of_ble_eq_true rfl) ⟨(Nat.le_of_ble_eq_true rfl), (Nat.le_of_ble_eq_true rfl), by omega, by omega⟩ (fun rv44 hn44 hq44 => ?_) jd_nox
                        obtain ⟨rfl, he44⟩ := hq44
                        rw [he44]
                        refine jd_updG (fun h44 hs44 ho44 => ?_)
                        have hw44_ := m_gQue hw1 (k := k_g) (show k_g < nG κ by omega) (ins_len enter_le).symm (ins_fun (jd_bx G) enter_le) hs44 ho44
                        refine jd_aload dX4_join_179 rfl ?_
                        refine jd_iconst (v := 1) dX4_join_181 (by decide) ?_
                        refine jd_putN (fs' := [_, _, _, _, _, _, _, _, _]) in_X10 tyX10_ok nmX10 ((w_msleeper hw44_) k_s (show k_s < nS κ by omega)) 3 q1602 dX4_join_182 rfl (Nat.le_of_ble_eq_true rfl) rfl rfl rfl (Nat.le_of_ble_eq_true rfl) rfl ?_
                        refine jd_updG (fun h46 hs46 ho46 => ?_)
                        have hw46 := m_sRest hw44_ (k := k_s) (show k_s < nS κ by omega) (v := 1) (d := ((mu_s μ 0 0 0).1 2 k_s)) (fun _ => rfl) hs46 ho46
                        refine jd_aload dX4_join_185 rfl ?_
                        refine jd_iload_n dX4_join_187 rfl ?_
                        refine jd_putN (fs' := [_, _, _, _, _, _, _, _, _]) in_X10 tyX10_ok nmX10 ((w_msleeper hw46) k_s (show k_s < nS κ by omega)) 4 q1604 dX4_join_188 rfl (Nat.le_of_ble_eq_true rfl) rfl rfl rfl (Nat.le_of_ble_eq_true rfl) rfl ?_
                        refine jd_updG (fun h47 hs47 ho47 => ?_)
                        have hw47 := m_sGate hw46 (k := k_s) (show k_s < nS κ by omega) (v := some k_g) hs47 ho47
                        refine jd_aload dX4_join_191 rfl ?_
                        refine jd_iload_n dX4_join_193 rfl ?_
                        refine jd_putN (fs' := [_, _, _, _, _, _, _, _, _]) in_X10 tyX10_ok nmX10 ((w_msleeper hw47) k_s (show k_s < nS κ by omega)) 5 q1605 dX4_join_194 rfl (Nat.le_of_ble_eq_true rfl) rfl rfl rfl (Nat.le_of_ble_eq_true rfl) rfl ?_
                        refine jd_updG (fun h48 hs48 ho48 => ?_)
                        have hw48 := m_sDecl hw47 (k := k_s) (show k_s < nS κ by omega) (v := d) hs48 ho48
                        refine jd_iload dX4_join_197 rfl ?_
                        exact jd_iret dX4_join_199 rfl (jd_mo.ok (γ' := γ) (μ' := (mu_s (mu_s μ 0 0 0) 2 k_s d)) (by unfold c_join; (try simp only [hT_s, hT_g]); rw [if_pos hcc6, if_pos hcc9, if_pos ⟨hcc14, hcc17⟩, if_pos ⟨hcc24, hcc27⟩]) (by first | (simp only [hT_s, hT_g]; done) | (simp only [hT_s, hT_g]; rfl) | rfl) rfl (by simp only [hT_s, hT_g]; have := hw48; rw [join_eq] at this; exact this) rfl (fun j hj => ((ho48 j (ll_nel (by decide) hj)).trans ((ho47 j (ll_nel (by decide) hj)).trans ((ho46 j (ll_nel (by decide) hj)).trans ((ho44 j (ll_nel (by decide) hj)).trans (ho1 j (ll_nel (by decide) hj))))))))
                      · exact absurd (enter_babies hbb (by omega)) z44
                | succ j ih112 =>
                  intro pl hpl hple
                  refine jd_aload dX4_join_112 rfl ?_
                  refine jd_getN in_X10 ((w_msleeper hw1) k_s (show k_s < nS κ by omega)) 1 q1600 dX4_join_114 rfl (Nat.le_of_ble_eq_true rfl) rfl ?_
                  refine jd_bif_eq (tgt := 165) dX4_join_117 (by decide) (fun z49 => ?_) (fun z50 => ?_)
                  · (have he := enter_other (κ := κ) (g := k_g) z49; omega)
                  · have hbb := z50
                    refine jd_iload dX4_join_120 rfl ?_
                    refine jd_nif_le (a := pl) (tgt := 165) dX4_join_122 (by decide) (by omega) (fun z51 => ?_) (fun z52 => ?_)
                    · omega
                    · refine jd_aload_n dX4_join_125 rfl ?_
                      refine jd_get in_X4 (w_mthis hw1) 8 q1474 dX4_join_126 rfl (Nat.le_of_ble_eq_true rfl) rfl ?_
                      refine jd_aload dX4_join_129 rfl ?_
                      refine jd_getN in_X8 ((w_mgate hw1) k_g (show k_g < nG κ by omega)) 6 q1555 dX4_join_131 rfl (Nat.le_of_ble_eq_true rfl) rfl ?_
                      refine jd_iload dX4_join_134 rfl ?_
                      refine jd_iconst (v := 1) dX4_join_136 (by decide) ?_
                      refine jd_isubN (a := pl) (b := 1) dX4_join_137 (by omega) ?_
                      have hbx53 := q_lt hI (g := k_g) (show k_g < nG κ by omega) (j := (pl - 1)) (by omega)
                      refine jd_pV (As := [.int (nI ((pl - 1)))]) (rest := [.ref (γ 0 3)]) (ct_J2_get hqu28 (by omega) (k := (pl - 1)) (show (pl - 1) < (gQue κ k_g).length by omega)) (jd_rv hqu28 15 rfl rfl) rfl q1584 q325 q2001 q83 q327 nJ2_get dX4_join_138 rfl rfl rfl (Nat.le_of_ble_eq_true rfl) ⟨(Nat.le_of_ble_eq_true rfl), (Nat.le_of_ble_eq_true rfl)⟩ ?_
                      refine jd_castS (jd_rvB (k := (qAt κ k_g ((pl - 1))) + 128) (by omega)) (ci := 20) rfl q1696 dX4_join_141 ?_
                      refine jd_pV (As := []) (rest := [.ref (γ 0 3)]) (ct_J19_intValue (v := qAt κ k_g ((pl - 1))) (by omega)) (jd_rvB (k := (qAt κ k_g ((pl - 1))) + 128) (by omega)) rfl q1697 q1698 q1699 q115 q1700 nJ19_intValue dX4_join_144 rfl rfl rfl (Nat.le_of_ble_eq_true rfl) ⟨(Nat.le_of_ble_eq_true rfl), (Nat.le_of_ble_eq_true rfl)⟩ ?_
                      refine jd_pV (As := [.int (nI (qAt κ k_g ((pl - 1))))]) (rest := []) (ct_J2_get hl18_ (show nS κ ≤ 900 by omega) (k := qAt κ k_g ((pl - 1))) (show qAt κ k_g ((pl - 1)) < nS κ by omega)) (jd_rv hl18_ 15 rfl rfl) rfl q1584 q325 q2001 q83 q327 nJ2_get dX4_join_147 rfl rfl rfl (Nat.le_of_ble_eq_true rfl) ⟨(Nat.le_of_ble_eq_true rfl), (Nat.le_of_ble_eq_true rfl)⟩ ?_
                      refine jd_castS (jd_rv ((w_msleeper hw1) (qAt κ k_g ((pl - 1))) (show qAt κ k_g ((pl - 1)) < nS κ by omega)) 12 rfl rfl) (ci := 12) rfl q1593 dX4_join_150 ?_
                      refine jd_getN in_X10 ((w_msleeper hw1) (qAt κ k_g ((pl - 1))) (show qAt κ k_g ((pl - 1)) < nS κ by omega)) 1 q1600 dX4_join_153 rfl (Nat.le_of_ble_eq_true rfl) rfl ?_
                      refine jd_bif_ne (tgt := 165) dX4_join_156 (by decide) (fun z54 => ?_) (fun z55 => ?_)
                      · exact absurd z54 (enter_nonbaby hI hk_g hbb (by omega) (by omega))
                      · refine jd_iinc (v := (nI pl + (-1))) (ls' := [_, _, _, _, _, _, _]) dX4_join_159 rfl (by first | rfl | decide) (Nat.le_of_ble_eq_true rfl) rfl rfl ?_
                        refine jd_goto (tgt := 112) dX4_join_162 (by decide) ?_
                        refine jd_lsub [some (.ref (γ 0 0)), some (.int (nI k_s)), some (.int (nI k_g)), some (.int (d)), some (.ref (γ 5 k_s)), some (.ref (γ 2 k_g)), some (.int (nI (pl - 1)))] ⟨rfl, rfl, rfl, rfl, rfl, rfl, (congrArg (fun x => some (Value.int x)) (nI_dec2 (by omega) (by omega))), trivial⟩ ?_
                        exact ih112 (pl - 1) (by omega) (by omega)
              refine jd_lsub [some (.ref (γ 0 0)), some (.int (nI k_s)), some (.int (nI k_g)), some (.int (d)), some (.ref (γ 5 k_s)), some (.ref (γ 2 k_g)), some (.int (nI (((gQue κ k_g).length))))] ⟨rfl, rfl, rfl, rfl, rfl, rfl, rfl, trivial⟩ ?_
              exact lp112_29 ((gQue κ k_g).length - (enterAt κ k_g k_s)) _ (by omega) (Nat.le_refl _)
            · have hcc56 := z26
              refine jd_aload_n dX4_join_96 rfl ?_
              refine jd_iconst (v := 3) dX4_join_97 (by decide) ?_
              refine jd_callV (As := [.int (3)]) (rest := []) (ct_X4_refuse hw1 (3)) (jd_rv (w_mthis hw1) 9 rfl rfl) rfl q1521 q1523 qs50 q90 q1524 nX4_refuse dX4_join_98 rfl rfl rfl (Nat.le_of_ble_eq_true rfl) ⟨(Nat.le_of_ble_eq_true rfl), (Nat.le_of_ble_eq_true rfl), by omega, by omega⟩ (fun rv56 hn56 hq56 => ?_) jd_nox
              obtain ⟨rfl, hw56_, hf56_⟩ := hq56
              exact jd_iret dX4_join_101 rfl (jd_mo.no (γ' := γ) (μ' := (mu_s (mu_s μ 0 0 0) 0 0 3)) (k := 3) (by unfold c_join; (try simp only [hT_s, hT_g]); rw [if_pos hcc6, if_pos hcc9, if_pos ⟨hcc14, hcc17⟩, if_neg (fun w => hcc56 w.2)]) (by decide) rfl hw56_ rfl (fun j hj => ((hf56_ j hj).trans (ho1 j (ll_nel (by decide) hj)))))
        · have hcc58 := z16
          refine jd_aload_n dX4_join_43 rfl ?_
          refine jd_iconst (v := 2) dX4_join_44 (by decide) ?_
          refine jd_callV (As := [.int (2)]) (rest := []) (ct_X4_refuse hw1 (2)) (jd_rv (w_mthis hw1) 9 rfl rfl) rfl q1521 q1523 qs50 q90 q1524 nX4_refuse dX4_join_45 rfl rfl rfl (Nat.le_of_ble_eq_true rfl) ⟨(Nat.le_of_ble_eq_true rfl), (Nat.le_of_ble_eq_true rfl), by omega, by omega⟩ (fun rv58 hn58 hq58 => ?_) jd_nox
          obtain ⟨rfl, hw58_, hf58_⟩ := hq58
          exact jd_iret dX4_join_48 rfl (jd_mo.no (γ' := γ) (μ' := (mu_s (mu_s μ 0 0 0) 0 0 2)) (k := 2) (by unfold c_join; (try simp only [hT_s, hT_g]); rw [if_pos hcc6, if_pos hcc9, if_neg (fun w => hcc58 w.2)]) (by decide) rfl hw58_ rfl (fun j hj => ((hf58_ j hj).trans (ho1 j (ll_nel (by decide) hj)))))
    · have hcc60 := z8
      refine jd_aload_n dX4_join_21 rfl ?_
      refine jd_iconst (v := 1) dX4_join_22 (by decide) ?_
      refine jd_callV (As := [.int (1)]) (rest := []) (ct_X4_refuse hw1 (1)) (jd_rv (w_mthis hw1) 9 rfl rfl) rfl q1521 q1523 qs50 q90 q1524 nX4_refuse dX4_join_23 rfl rfl rfl (Nat.le_of_ble_eq_true rfl) ⟨(Nat.le_of_ble_eq_true rfl), (Nat.le_of_ble_eq_true rfl), by omega, by omega⟩ (fun rv60 hn60 hq60 => ?_) jd_nox
      obtain ⟨rfl, hw60_, hf60_⟩ := hq60
      exact jd_iret dX4_join_26 rfl (jd_mo.no (γ' := γ) (μ' := (mu_s (mu_s μ 0 0 0) 0 0 1)) (k := 1) (by unfold c_join; (try simp only [hT_s]); rw [if_pos hcc6, if_neg hcc60]) (by decide) rfl hw60_ rfl (fun j hj => ((hf60_ j hj).trans (ho1 j (ll_nel (by decide) hj)))))

set_option maxRecDepth 20000 in
set_option maxHeartbeats 2000000 in
theorem ct_X4_stepOut_0 {G : jd_G} {γ : ll_B} {κ : ll_K} {μ : ll_U} {h : jd_H} (hw : WM G γ κ μ h) (hI : ll_I κ) (s g p : Nat) (hs : s < nS κ) (hg1 : sGate κ s = some g) (hg2 : g < nG κ) (hp1 : placeOf κ g s = some p) (hp2 : p < (gQue κ g).length) : jd_Ct G mX4_stepOut 11 (0) (0) [.ref (γ 0 0), .int (nI s), .int (0)] h (fun (r : Option Value) (h2 : jd_H) => r = none ∧ WM G γ (k_lie (ll_sq κ g ((gQue κ g).eraseIdx p)) s) μ h2 ∧ ∀ j : jd_Id, (j.1 < 20 ∨ 40 ≤ j.1) → h2 j = h j) jd_no := by
  obtain ⟨⟨hG8, hS12, hP24, hH40, hN99, hH24⟩, hIg, hIs, hIp, hIh, hIl, hIq⟩ := id hI
  obtain ⟨mcG, hlG⟩ := w_mgates hw
  obtain ⟨mcS, hlS⟩ := w_msleepers hw
  obtain ⟨mcP, hlP⟩ := w_mparts hw
  obtain ⟨mcH, hlH⟩ := w_mhidings hw
  refine jd_ct (ls := [some (.ref (γ 0 0)), some (.int (nI s)), some (.int (0)), none, none, none]) rfl rfl (by decide) (Nat.le_of_ble_eq_true rfl) rfl ?_
  refine jd_aload_n dX4_stepOut_0 rfl ?_
  refine jd_get in_X4 (w_mthis hw) 8 q1474 dX4_stepOut_1 rfl (Nat.le_of_ble_eq_true rfl) rfl ?_
  refine jd_iload_n dX4_stepOut_4 rfl ?_
  refine jd_pV (As := [.int (nI s)]) (rest := []) (ct_J2_get hlS (show nS κ ≤ 900 by omega) (k := s) (show s < nS κ by omega)) (jd_rv hlS 15 rfl rfl) rfl q1584 q325 q2001 q83 q327 nJ2_get dX4_stepOut_5 rfl rfl rfl (Nat.le_of_ble_eq_true rfl) ⟨(Nat.le_of_ble_eq_true rfl), (Nat.le_of_ble_eq_true rfl)⟩ ?_
  refine jd_castS (jd_rv ((w_msleeper hw) s (show s < nS κ by omega)) 12 rfl rfl) (ci := 12) rfl q1593 dX4_stepOut_8 ?_
  refine jd_astore_n (ls' := [_, _, _, _, _, _]) dX4_stepOut_11 (Nat.le_of_ble_eq_true rfl) rfl rfl ?_
  refine jd_aload_n dX4_stepOut_12 rfl ?_
  refine jd_get in_X4 (w_mthis hw) 7 q1473 dX4_stepOut_13 rfl (Nat.le_of_ble_eq_true rfl) rfl ?_
  refine jd_aload_n dX4_stepOut_16 rfl ?_
  refine jd_getN in_X10 ((w_msleeper hw) s (show s < nS κ by omega)) 4 q1604 dX4_stepOut_17 rfl (Nat.le_of_ble_eq_true rfl) rfl ?_
  refine jd_top (w := .int (nI g)) (congrArg Value.int (by rw [hg1]; rfl)) ?_
  refine jd_pV (As := [.int (nI g)]) (rest := []) (ct_J2_get hlG (show nG κ ≤ 900 by omega) (k := g) (show g < nG κ by omega)) (jd_rv hlG 15 rfl rfl) rfl q1584 q325 q2001 q83 q327 nJ2_get dX4_stepOut_20 rfl rfl rfl (Nat.le_of_ble_eq_true rfl) ⟨(Nat.le_of_ble_eq_true rfl), (Nat.le_of_ble_eq_true rfl)⟩ ?_
  refine jd_castS (jd_rv ((w_mgate hw) g (show g < nG κ by omega)) 11 rfl rfl) (ci := 11) rfl q1534 dX4_stepOut_23 ?_
  refine jd_astore (ls' := [_, _, _, _, _, _]) dX4_stepOut_26 (Nat.le_of_ble_eq_true rfl) rfl rfl ?_
  refine jd_aload dX4_stepOut_28 rfl ?_
  refine jd_getN in_X8 ((w_mgate hw) g (show g < nG κ by omega)) 6 q1555 dX4_stepOut_30 rfl (Nat.le_of_ble_eq_true rfl) rfl ?_
  refine jd_aload dX4_stepOut_33 rfl ?_
  refine jd_iload_n dX4_stepOut_35 rfl ?_
  refine jd_pV (As := [.int (nI s)]) (rest := [.ref (γ 3 g)]) (ct_X8_place hw hI (g) (s) (by omega) (by omega)) (jd_rv ((w_mgate hw) g (show g < nG κ by omega)) 11 rfl rfl) rfl q1746 q1747 q1748 q104 q1749 nX8_place dX4_stepOut_36 rfl rfl rfl (Nat.le_of_ble_eq_true rfl) ⟨(Nat.le_of_ble_eq_true rfl), (Nat.le_of_ble_eq_true rfl)⟩ ?_
  refine jd_top (w := .int (nI p)) (congrArg Value.int (by rw [hp1]; rfl)) ?_
  obtain ⟨mcq1, hqu1⟩ := w_mqueue hw g (show g < nG κ by omega)
  have hql1 := (hIg g (show g < nG κ by omega)).2.2.1
  refine jd_callV (As := [.int (nI p)]) (rest := []) (ct_J2_remove hqu1 (by omega) (k := p) hp2 (Cn := "java/lang/Integer") q2027 (fun i hi => jd_bx_Ob (show qAt κ g i < 128 from by have := q_lt hI hg2 (j := i) hi; omega))) (jd_rv hqu1 15 rfl rfl) rfl q1758 q1007 q2002 q83 q1009 nJ2_remove dX4_stepOut_39 rfl rfl rfl (Nat.le_of_ble_eq_true rfl) ⟨(Nat.le_of_ble_eq_true rfl), (Nat.le_of_ble_eq_true rfl), by omega, by omega⟩ (fun rv1 hn1 hq1 => ?_) jd_nox
  obtain ⟨rfl, he1⟩ := hq1
  rw [he1]
  refine jd_updG (fun h1 hs1 ho1 => ?_)
  have hw1_ := m_gQue hw (k := g) (show g < nG κ by omega) (er_len hp2) (er_fun (jd_bx G)) hs1 ho1
  refine jd_pop dX4_stepOut_42 rfl ?_
  refine jd_aload_n dX4_stepOut_43 rfl ?_
  refine jd_iload_n dX4_stepOut_44 rfl ?_
  refine jd_putN (fs' := [_, _, _, _, _, _, _, _, _]) in_X10 tyX10_ok nmX10 ((w_msleeper hw1_) s (show s < nS κ by omega)) 3 q1602 dX4_stepOut_45 rfl (Nat.le_of_ble_eq_true rfl) rfl rfl rfl (Nat.le_of_ble_eq_true rfl) rfl ?_
  refine jd_updG (fun h3 hs3 ho3 => ?_)
  have hw3 := m_sRest hw1_ (k := s) (show s < nS κ by omega) (v := 0) (d := 0) (fun w => absurd w (by decide)) hs3 ho3
  refine jd_aload_n dX4_stepOut_48 rfl ?_
  refine jd_iconst (v := (-1)) dX4_stepOut_49 (by decide) ?_
  refine jd_putN (fs' := [_, _, _, _, _, _, _, _, _]) in_X10 tyX10_ok nmX10 ((w_msleeper hw3) s (show s < nS κ by omega)) 4 q1604 dX4_stepOut_50 rfl (Nat.le_of_ble_eq_true rfl) rfl rfl rfl (Nat.le_of_ble_eq_true rfl) rfl ?_
  refine jd_updG (fun h4 hs4 ho4 => ?_)
  have hw4 := m_sGate hw3 (k := s) (show s < nS κ by omega) (v := none) hs4 ho4
  refine jd_iconst (v := 0) dX4_stepOut_53 (by decide) ?_
  refine jd_istore (ls' := [_, _, _, _, _, _]) dX4_stepOut_54 (Nat.le_of_ble_eq_true rfl) rfl rfl ?_
  refine jd_iload dX4_stepOut_56 rfl ?_
  refine jd_aload_n dX4_stepOut_58 rfl ?_
  refine jd_get in_X4 (w_mthis hw4) 9 q1475 dX4_stepOut_59 rfl (Nat.le_of_ble_eq_true rfl) rfl ?_
  obtain ⟨mcl5, hl5_⟩ := w_mparts hw4
  refine jd_pV (As := []) (rest := [.int (0)]) (ct_J2_size hl5_ (show nP κ ≤ 900 by omega)) (jd_rv hl5_ 15 rfl rfl) rfl q1533 q344 q1999 q83 q346 nJ2_size dX4_stepOut_62 rfl rfl rfl (Nat.le_of_ble_eq_true rfl) ⟨(Nat.le_of_ble_eq_true rfl), (Nat.le_of_ble_eq_true rfl)⟩ ?_
  refine jd_ncmp_ge (a := 0) (b := nP κ) (tgt := 116) dX4_stepOut_65 (by decide) (by omega) (by omega) (fun z6 => ?_) (fun z7 => ?_)
  · exact jd_vret dX4_stepOut_116 rfl ⟨rfl, hw4, (fun j hj => ((ho4 j (ll_nel (by decide) hj)).trans ((ho3 j (ll_nel (by decide) hj)).trans (ho1 j (ll_nel (by decide) hj)))))⟩
  · refine jd_iload_n dX4_stepOut_68 rfl ?_
    refine jd_iconst (v := 2) dX4_stepOut_69 (by decide) ?_
    refine jd_ncmp_ne (a := 0) (b := 2) (tgt := 116) dX4_stepOut_70 (by decide) (by omega) (by omega) (fun z8 => ?_) (fun z9 => ?_)
    · exact jd_vret dX4_stepOut_116 rfl ⟨rfl, hw4, (fun j hj => ((ho4 j (ll_nel (by decide) hj)).trans ((ho3 j (ll_nel (by decide) hj)).trans (ho1 j (ll_nel (by decide) hj)))))⟩
    · omega

set_option maxRecDepth 20000 in
set_option maxHeartbeats 2000000 in
theorem ct_X4_leave {G : jd_G} {γ : ll_B} {κ : ll_K} {μ : ll_U} {h : jd_H} (hw : WM G γ κ μ h) (hI : ll_I κ) (s : Int32) : jd_Ct G mX4_leave 12 (0) (0) [.ref (γ 0 0), .int (s)] h (jd_mo G γ κ h (c_leave κ s) (.int (nI (leaveP κ (tN s)))) (k_leave κ (tN s))) jd_no := by
  obtain ⟨⟨hG8, hS12, hP24, hH40, hN99, hH24⟩, hIg, hIs, hIp, hIh, hIl, hIq⟩ := id hI
  obtain ⟨mcG, hlG⟩ := w_mgates hw
  obtain ⟨mcS, hlS⟩ := w_msleepers hw
  obtain ⟨mcP, hlP⟩ := w_mparts hw
  obtain ⟨mcH, hlH⟩ := w_mhidings hw
  refine jd_ct (ls := [some (.ref (γ 0 0)), some (.int (s)), none, none]) rfl rfl (by decide) (Nat.le_of_ble_eq_true rfl) rfl ?_
  refine jd_aload_n dX4_leave_0 rfl ?_
  refine jd_iconst (v := 0) dX4_leave_1 (by decide) ?_
  refine jd_put (fs' := [_, _, _, _, _, _, _, _, _, _, _, _, _]) in_X4 tyX4_ok nmX4 (w_mthis hw) 0 q1466 dX4_leave_2 rfl (Nat.le_of_ble_eq_true rfl) rfl rfl rfl (Nat.le_of_ble_eq_true rfl) rfl ?_
  refine jd_updG (fun h1 hs1 ho1 => ?_)
  have hw1 := m_thrown hw (v := 0) hs1 ho1
  refine jd_aload_n dX4_leave_5 rfl ?_
  refine jd_iload_n dX4_leave_6 rfl ?_
  refine jd_pV (As := [.int (s)]) (rest := []) (ct_X4_isSleeper hw1 hI (s)) (jd_rv (w_mthis hw1) 9 rfl rfl) rfl q1634 q1636 qs52 q90 q1637 nX4_isSleeper dX4_leave_7 rfl rfl rfl (Nat.le_of_ble_eq_true rfl) ⟨(Nat.le_of_ble_eq_true rfl), (Nat.le_of_ble_eq_true rfl)⟩ ?_
  refine jd_bif_ne (tgt := 19) dX4_leave_10 (by decide) (fun z2 => ?_) (fun z3 => ?_)
  · have hcc4 := z2
    obtain ⟨k_s, hk_s, rfl⟩ := inN_ex (n := (nS κ)) (by omega) hcc4
    have hT_s := tN_nI (show k_s < 2 ^ 31 by omega)
    refine jd_aload_n dX4_leave_19 rfl ?_
    refine jd_get in_X4 (w_mthis hw1) 8 q1474 dX4_leave_20 rfl (Nat.le_of_ble_eq_true rfl) rfl ?_
    refine jd_iload_n dX4_leave_23 rfl ?_
    obtain ⟨mcl5, hl5_⟩ := w_msleepers hw1
    refine jd_pV (As := [.int (nI k_s)]) (rest := []) (ct_J2_get hl5_ (show nS κ ≤ 900 by omega) (k := k_s) (show k_s < nS κ by omega)) (jd_rv hl5_ 15 rfl rfl) rfl q1584 q325 q2001 q83 q327 nJ2_get dX4_leave_24 rfl rfl rfl (Nat.le_of_ble_eq_true rfl) ⟨(Nat.le_of_ble_eq_true rfl), (Nat.le_of_ble_eq_true rfl)⟩ ?_
    refine jd_castS (jd_rv ((w_msleeper hw1) k_s (show k_s < nS κ by omega)) 12 rfl rfl) (ci := 12) rfl q1593 dX4_leave_27 ?_
    refine jd_astore_n (ls' := [_, _, _, _]) dX4_leave_30 (Nat.le_of_ble_eq_true rfl) rfl rfl ?_
    have hsX2 := (hIs k_s hk_s).2.1
    refine jd_aload_n dX4_leave_31 rfl ?_
    refine jd_getN in_X10 ((w_msleeper hw1) k_s (show k_s < nS κ by omega)) 3 q1602 dX4_leave_32 rfl (Nat.le_of_ble_eq_true rfl) rfl ?_
    refine jd_iconst (v := 1) dX4_leave_35 (by decide) ?_
    refine jd_ncmp_eq (a := (sRest κ k_s)) (b := 1) (tgt := 45) dX4_leave_36 (by decide) (by omega) (by omega) (fun z6 => ?_) (fun z7 => ?_)
    · have hcc8 := z6
      obtain ⟨g, hg1, hg2, hg3⟩ := (hIs k_s hk_s).2.2.2.1 hcc8
      obtain ⟨p, hp1, hp2, hp3⟩ := place_mem hg3
      have hle := leave_eq hg1 hp1 hp3
      have hgX := hIg g hg2
      have hqX := hgX.2.2.1
      refine jd_aload_n dX4_leave_45 rfl ?_
      refine jd_get in_X4 (w_mthis hw1) 7 q1473 dX4_leave_46 rfl (Nat.le_of_ble_eq_true rfl) rfl ?_
      refine jd_aload_n dX4_leave_49 rfl ?_
      refine jd_getN in_X10 ((w_msleeper hw1) k_s (show k_s < nS κ by omega)) 4 q1604 dX4_leave_50 rfl (Nat.le_of_ble_eq_true rfl) rfl ?_
      refine jd_top (w := .int (nI g)) (congrArg Value.int (by rw [hg1]; rfl)) ?_
      obtain ⟨mcl9, hl9_⟩ := w_mgates hw1
      refine jd_pV (As := [.int (nI g)]) (rest := []) (ct_J2_get hl9_ (show nG κ ≤ 900 by omega) (k := g) (show g < nG κ by omega)) (jd_rv hl9_ 15 rfl rfl) rfl q1584 q325 q2001 q83 q327 nJ2_get dX4_leave_53 rfl rfl rfl (Nat.le_of_ble_eq_true rfl) ⟨(Nat.le_of_ble_eq_true rfl), (Nat.le_of_ble_eq_true rfl)⟩ ?_
      refine jd_castS (jd_rv ((w_mgate hw1) g (show g < nG κ by omega)) 11 rfl rfl) (ci := 11) rfl q1534 dX4_leave_56 ?_
      refine jd_iload_n dX4_leave_59 rfl ?_
      refine jd_pV (As := [.int (nI k_s)]) (rest := []) (ct_X8_place hw1 hI (g) (k_s) (by omega) (by omega)) (jd_rv ((w_mgate hw1) g (show g < nG κ by omega)) 11 rfl rfl) rfl q1746 q1747 q1748 q104 q1749 nX8_place dX4_leave_60 rfl rfl rfl (Nat.le_of_ble_eq_true rfl) ⟨(Nat.le_of_ble_eq_true rfl), (Nat.le_of_ble_eq_true rfl)⟩ ?_
      refine jd_top (w := .int (nI p)) (congrArg Value.int (by rw [hp1]; rfl)) ?_
      refine jd_istore_n (ls' := [_, _, _, _]) dX4_leave_63 (Nat.le_of_ble_eq_true rfl) rfl rfl ?_
      refine jd_aload_n dX4_leave_64 rfl ?_
      refine jd_iload_n dX4_leave_65 rfl ?_
      refine jd_iconst (v := 0) dX4_leave_66 (by decide) ?_
      refine jd_callV (As := [.int (nI k_s), .int (0)]) (rest := []) (ct_X4_stepOut_0 hw1 hI k_s g p (by omega) hg1 hg2 hp1 hp2) (jd_rv (w_mthis hw1) 9 rfl rfl) rfl q1754 q1756 qs57 q90 q1757 nX4_stepOut dX4_leave_67 rfl rfl rfl (Nat.le_of_ble_eq_true rfl) ⟨(Nat.le_of_ble_eq_true rfl), (Nat.le_of_ble_eq_true rfl), by omega, by omega⟩ (fun rv9 hn9 hq9 => ?_) jd_nox
      obtain ⟨rfl, hw9_, hf9_⟩ := hq9
      refine jd_iload_n dX4_leave_70 rfl ?_
      exact jd_iret dX4_leave_71 rfl (jd_mo.ok (γ' := γ) (μ' := (mu_s μ 0 0 0)) (by unfold c_leave; (try simp only [hT_s]); rw [if_pos hcc4, if_pos hcc8]) (by simp only [hT_s]; rw [hle.2]) rfl (by simp only [hT_s]; rw [hle.1]; exact hw9_) rfl (fun j hj => ((hf9_ j hj).trans (ho1 j (ll_nel (by decide) hj)))))
    · have hcc11 := z7
      refine jd_aload_n dX4_leave_39 rfl ?_
      refine jd_iconst (v := 2) dX4_leave_40 (by decide) ?_
      refine jd_callV (As := [.int (2)]) (rest := []) (ct_X4_refuse hw1 (2)) (jd_rv (w_mthis hw1) 9 rfl rfl) rfl q1521 q1523 qs50 q90 q1524 nX4_refuse dX4_leave_41 rfl rfl rfl (Nat.le_of_ble_eq_true rfl) ⟨(Nat.le_of_ble_eq_true rfl), (Nat.le_of_ble_eq_true rfl), by omega, by omega⟩ (fun rv11 hn11 hq11 => ?_) jd_nox
      obtain ⟨rfl, hw11_, hf11_⟩ := hq11
      exact jd_iret dX4_leave_44 rfl (jd_mo.no (γ' := γ) (μ' := (mu_s (mu_s μ 0 0 0) 0 0 2)) (k := 2) (by unfold c_leave; (try simp only [hT_s]); rw [if_pos hcc4, if_neg hcc11]) (by decide) rfl hw11_ rfl (fun j hj => ((hf11_ j hj).trans (ho1 j (ll_nel (by decide) hj)))))
  · have hcc13 := z3
    refine jd_aload_n dX4_leave_13 rfl ?_
    refine jd_iconst (v := 1) dX4_leave_14 (by decide) ?_
    refine jd_callV (As := [.int (1)]) (rest := []) (ct_X4_refuse hw1 (1)) (jd_rv (w_mthis hw1) 9 rfl rfl) rfl q1521 q1523 qs50 q90 q1524 nX4_refuse dX4_leave_15 rfl rfl rfl (Nat.le_of_ble_eq_true rfl) ⟨(Nat.le_of_ble_eq_true rfl), (Nat.le_of_ble_eq_true rfl), by omega, by omega⟩ (fun rv13 hn13 hq13 => ?_) jd_nox
    obtain ⟨rfl, hw13_, hf13_⟩ := hq13
    exact jd_iret dX4_leave_18 rfl (jd_mo.no (γ' := γ) (μ' := (mu_s (mu_s μ 0 0 0) 0 0 1)) (k := 1) (by unfold c_leave; rw [if_neg hcc13]) (by decide) rfl hw13_ rfl (fun j hj => ((hf13_ j hj).trans (ho1 j (ll_nel (by decide) hj)))))
