/-! the model, reading, third (printed by mk_c.py) -/
set_option maxRecDepth 20000 in
set_option maxHeartbeats 2000000 in
theorem ct_X4_ring {G : jd_G} {γ : ll_B} {κ : ll_K} {μ : ll_U} {h : jd_H} (hw : WM G γ κ μ h) (hI : ll_I κ) (s : Nat) (hs : s < nS κ) : jd_Ct G mX4_ring 3 (0) (0) [.ref (γ 0 0), .int (nI s)] h (jd_pu h (.int (ringN κ s))) jd_no := by
  obtain ⟨⟨hG8, hS12, hP24, hH40, hN99, hH24⟩, hIg, hIs, hIp, hIh, hIl, hIq⟩ := id hI
  obtain ⟨mcG, hlG⟩ := w_mgates hw
  obtain ⟨mcS, hlS⟩ := w_msleepers hw
  obtain ⟨mcP, hlP⟩ := w_mparts hw
  obtain ⟨mcH, hlH⟩ := w_mhidings hw
  refine jd_ct (ls := [some (.ref (γ 0 0)), some (.int (nI s)), none, none, none, none, none, none, none]) rfl rfl (by decide) (Nat.le_of_ble_eq_true rfl) rfl ?_
  refine jd_iconst (v := 1) dX4_ring_0 (by decide) ?_
  refine jd_iload_n dX4_ring_1 rfl ?_
  refine jd_ishl dX4_ring_2 ?_
  refine jd_istore_n (ls' := [_, _, _, _, _, _, _, _, _]) dX4_ring_3 (Nat.le_of_ble_eq_true rfl) rfl rfl ?_
  refine jd_iconst (v := 1) dX4_ring_4 (by decide) ?_
  refine jd_istore_n (ls' := [_, _, _, _, _, _, _, _, _]) dX4_ring_5 (Nat.le_of_ble_eq_true rfl) rfl rfl ?_
  have lp6_1 : ∀ (j : Nat) (T : Nat → Bool) (mo : Bool) (hT : T s = true) (hR : ∀ x, T x = true → Reach κ s x) (hc : ¬ mo = true → clH κ T (hids κ).length) (hm : ¬ mo = true ∨ ll_mi T 12 + 1 ≤ j), jd_W G mX4_ring 3 (0) (0) 6 [some (.ref (γ 0 0)), some (.int (nI s)), some (.int ((ll_sB T))), some (.int (jd_b (mo = true))), none, none, none, none, none] [] h (jd_pu h (.int (ringN κ s))) jd_no := by
    intro j
    induction j with
    | zero =>
      intro T mo hT hR hc hm
      refine jd_iload_n dX4_ring_6 rfl ?_
      refine jd_bif_eq (tgt := 208) dX4_ring_7 (by decide) (fun z2 => ?_) (fun z3 => ?_)
      · have hcc := hc z2
        refine jd_iload_n dX4_ring_208 rfl ?_
        exact jd_iret dX4_ring_209 rfl ⟨congrArg (fun x => some (Value.int x)) (ring_is hT hR (cl_link hcc) (by omega)), rfl⟩
      · have hmj : ll_mi T 12 + 1 ≤ 0 := hm.resolve_left (fun w => w z3)
        exact absurd hmj (by omega)
    | succ j6 ih6 =>
      intro T mo hT hR hc hm
      refine jd_iload_n dX4_ring_6 rfl ?_
      refine jd_bif_eq (tgt := 208) dX4_ring_7 (by decide) (fun z4 => ?_) (fun z5 => ?_)
      · have hcc := hc z4
        refine jd_iload_n dX4_ring_208 rfl ?_
        exact jd_iret dX4_ring_209 rfl ⟨congrArg (fun x => some (Value.int x)) (ring_is hT hR (cl_link hcc) (by omega)), rfl⟩
      · have hmj : ll_mi T 12 + 1 ≤ j6 + 1 := hm.resolve_left (fun w => w z5)
        refine jd_iconst (v := 0) dX4_ring_10 (by decide) ?_
        refine jd_istore_n (ls' := [_, _, _, _, _, _, _, _, _]) dX4_ring_11 (Nat.le_of_ble_eq_true rfl) rfl rfl ?_
        refine jd_iconst (v := 0) dX4_ring_12 (by decide) ?_
        refine jd_istore (ls' := [_, _, _, _, _, _, _, _, _]) dX4_ring_13 (Nat.le_of_ble_eq_true rfl) rfl rfl ?_
        have lp15_6 : ∀ (j : Nat) (k : Nat) (hk0 : k + j = (hids κ).length) (T2 : Nat → Bool) (mo2 : Bool) (h1 : ∀ x, T x = true → T2 x = true) (hR2 : ∀ x, T2 x = true → Reach κ s x) (hcl : (mo2 = true ∧ (∃ x, x < 12 ∧ T x ≠ true ∧ T2 x = true)) ∨ (¬ mo2 = true ∧ T2 = T ∧ clH κ T k)), jd_W G mX4_ring 3 (0) (0) 15 [some (.ref (γ 0 0)), some (.int (nI s)), some (.int ((ll_sB T2))), some (.int (jd_b (mo2 = true))), some (.int (nI ((3 * k)))), none, none, none, none] [] h (jd_pu h (.int (ringN κ s))) jd_no := by
          intro j
          induction j with
          | zero =>
            intro k hk0 T2 mo2 h1 hR2 hcl
            obtain rfl : k = (hids κ).length := by omega
            refine jd_iload dX4_ring_15 rfl ?_
            refine jd_aload_n dX4_ring_17 rfl ?_
            refine jd_get in_X4 (w_mthis hw) 10 q1476 dX4_ring_18 rfl (Nat.le_of_ble_eq_true rfl) rfl ?_
            refine jd_pV (As := []) (rest := [.int (nI ((3 * ((hids κ).length))))]) (ct_J2_size hlH (show 3 * (hids κ).length ≤ 900 by omega)) (jd_rv hlH 15 rfl rfl) rfl q1533 q344 q1999 q83 q346 nJ2_size dX4_ring_21 rfl rfl rfl (Nat.le_of_ble_eq_true rfl) ⟨(Nat.le_of_ble_eq_true rfl), (Nat.le_of_ble_eq_true rfl)⟩ ?_
            refine jd_ncmp_ge (a := (3 * ((hids κ).length))) (b := 3 * (hids κ).length) (tgt := 205) dX4_ring_24 (by decide) (by omega) (by omega) (fun z7 => ?_) (fun z8 => ?_)
            · have hcc : ¬ mo2 = true → clH κ T2 (hids κ).length := fun e => by
                rcases hcl with ⟨h1, _⟩ | ⟨_, e2, hc2⟩
                · exact absurd h1 e
                · subst e2; exact hc2
              have hmm : ¬ mo2 = true ∨ ll_mi T2 12 + 1 ≤ j6 := by
                rcases hcl with ⟨_, k, hk, hk1, hk2⟩ | ⟨h1, _, _⟩
                · have := ll_mi_lt h1 hk hk1 hk2; right; omega
                · exact Or.inl h1
              refine jd_goto (tgt := 6) dX4_ring_205 (by decide) ?_
              refine jd_lsub [some (.ref (γ 0 0)), some (.int (nI s)), some (.int ((ll_sB T2))), some (.int (jd_b (mo2 = true))), none, none, none, none, none] ⟨rfl, rfl, rfl, rfl, trivial⟩ ?_
              exact ih6 T2 mo2 (h1 s hT) hR2 hcc hmm
            · omega
          | succ j ih15 =>
            intro k hk0 T2 mo2 h1 hR2 hcl
            have hhk := hIh k (by omega)
            have hhk1 := hhk.1
            refine jd_iload dX4_ring_15 rfl ?_
            refine jd_aload_n dX4_ring_17 rfl ?_
            refine jd_get in_X4 (w_mthis hw) 10 q1476 dX4_ring_18 rfl (Nat.le_of_ble_eq_true rfl) rfl ?_
            refine jd_pV (As := []) (rest := [.int (nI ((3 * k)))]) (ct_J2_size hlH (show 3 * (hids κ).length ≤ 900 by omega)) (jd_rv hlH 15 rfl rfl) rfl q1533 q344 q1999 q83 q346 nJ2_size dX4_ring_21 rfl rfl rfl (Nat.le_of_ble_eq_true rfl) ⟨(Nat.le_of_ble_eq_true rfl), (Nat.le_of_ble_eq_true rfl)⟩ ?_
            refine jd_ncmp_ge (a := (3 * k)) (b := 3 * (hids κ).length) (tgt := 205) dX4_ring_24 (by decide) (by omega) (by omega) (fun z9 => ?_) (fun z10 => ?_)
            · omega
            · refine jd_iload_n dX4_ring_27 rfl ?_
              refine jd_aload_n dX4_ring_28 rfl ?_
              refine jd_get in_X4 (w_mthis hw) 10 q1476 dX4_ring_29 rfl (Nat.le_of_ble_eq_true rfl) rfl ?_
              refine jd_iload dX4_ring_32 rfl ?_
              have hbx11 := hid_bx hI (j := (3 * k)) (by omega)
              refine jd_pV (As := [.int (nI ((3 * k)))]) (rest := [.int ((ll_sB T2))]) (ct_J2_get hlH (show 3 * (hids κ).length ≤ 900 by omega) (k := (3 * k)) (show (3 * k) < 3 * (hids κ).length by omega)) (jd_rv hlH 15 rfl rfl) rfl q1584 q325 q2001 q83 q327 nJ2_get dX4_ring_34 rfl rfl rfl (Nat.le_of_ble_eq_true rfl) ⟨(Nat.le_of_ble_eq_true rfl), (Nat.le_of_ble_eq_true rfl)⟩ ?_
              refine jd_castS (jd_rvB (k := (hidN κ ((3 * k))) + 128) (by omega)) (ci := 20) rfl q1696 dX4_ring_37 ?_
              refine jd_pV (As := []) (rest := [.int ((ll_sB T2))]) (ct_J19_intValue (v := hidN κ ((3 * k))) (by omega)) (jd_rvB (k := (hidN κ ((3 * k))) + 128) (by omega)) rfl q1697 q1698 q1699 q115 q1700 nJ19_intValue dX4_ring_40 rfl rfl rfl (Nat.le_of_ble_eq_true rfl) ⟨(Nat.le_of_ble_eq_true rfl), (Nat.le_of_ble_eq_true rfl)⟩ ?_
              refine jd_top (w := .int (nI (hS κ k))) (congrArg (fun x => Value.int (nI x)) hidN0) ?_
              refine jd_ishr dX4_ring_43 ?_
              refine jd_iconst (v := 1) dX4_ring_44 (by decide) ?_
              refine jd_iand dX4_ring_45 ?_
              refine jd_if_ne (tgt := 52) dX4_ring_46 (by decide) (fun z12 => ?_) (fun z13 => ?_)
              · have hTk : T2 (hS κ k) = true := (ll_sB_has (by omega)).mp (has_t (x := ll_sB T2) (p := hS κ k) (by omega) z12)
                refine jd_iconst (v := 0) dX4_ring_52 (by decide) ?_
                refine jd_istore (ls' := [_, _, _, _, _, _, _, _, _]) dX4_ring_53 (Nat.le_of_ble_eq_true rfl) rfl rfl ?_
                have lp55_14 : ∀ (j : Nat) (o : Nat) (ho0 : o + j = (hids κ).length) (T3 : Nat → Bool) (mo3 : Bool) (h13 : ∀ x, T x = true → T3 x = true) (h23 : ∀ x, T2 x = true → T3 x = true) (hR3 : ∀ x, T3 x = true → Reach κ s x) (hcl3 : (mo3 = true ∧ (∃ x, x < 12 ∧ T x ≠ true ∧ T3 x = true)) ∨ (¬ mo3 = true ∧ T3 = T ∧ clH κ T k ∧ ∀ j, j < o → T (hS κ k) = true → hidFit κ k j → T (hS κ j) = true)), jd_W G mX4_ring 3 (0) (0) 55 [some (.ref (γ 0 0)), some (.int (nI s)), some (.int ((ll_sB T3))), some (.int (jd_b (mo3 = true))), some (.int (nI ((3 * k)))), some (.int (nI ((3 * o)))), none, none, none] [] h (jd_pu h (.int (ringN κ s))) jd_no := by
                  intro j
                  induction j with
                  | zero =>
                    intro o ho0 T3 mo3 h13 h23 hR3 hcl3
                    obtain rfl : o = (hids κ).length := by omega
                    refine jd_iload dX4_ring_55 rfl ?_
                    refine jd_aload_n dX4_ring_57 rfl ?_
                    refine jd_get in_X4 (w_mthis hw) 10 q1476 dX4_ring_58 rfl (Nat.le_of_ble_eq_true rfl) rfl ?_
                    refine jd_pV (As := []) (rest := [.int (nI ((3 * ((hids κ).length))))]) (ct_J2_size hlH (show 3 * (hids κ).length ≤ 900 by omega)) (jd_rv hlH 15 rfl rfl) rfl q1533 q344 q1999 q83 q346 nJ2_size dX4_ring_61 rfl rfl rfl (Nat.le_of_ble_eq_true rfl) ⟨(Nat.le_of_ble_eq_true rfl), (Nat.le_of_ble_eq_true rfl)⟩ ?_
                    refine jd_ncmp_ge (a := (3 * ((hids κ).length))) (b := 3 * (hids κ).length) (tgt := 199) dX4_ring_64 (by decide) (by omega) (by omega) (fun z15 => ?_) (fun z16 => ?_)
                    · have hcl2 : (mo3 = true ∧ (∃ x, x < 12 ∧ T x ≠ true ∧ T3 x = true)) ∨ (¬ mo3 = true ∧ T3 = T ∧ clH κ T (k + 1)) := by
                        rcases hcl3 with hk | ⟨e0, e2, hc2, hc3⟩
                        · exact Or.inl hk
                        · refine Or.inr ⟨e0, e2, fun i j hi hj hta hl => ?_⟩
                          rcases Nat.lt_succ_iff_lt_or_eq.mp hi with w | w
                          · exact hc2 i j w hj hta hl
                          · subst w; exact hc3 j hj hta hl
                      refine jd_iincN (n := 3) (ls' := [_, _, _, _, _, _, _, _, _]) dX4_ring_199 rfl (Nat.le_of_ble_eq_true rfl) rfl rfl ?_
                      refine jd_goto (tgt := 15) dX4_ring_202 (by decide) ?_
                      refine jd_lsub [some (.ref (γ 0 0)), some (.int (nI s)), some (.int ((ll_sB T3))), some (.int (jd_b (mo3 = true))), some (.int (nI ((3 * (k + 1))))), none, none, none, none] ⟨rfl, rfl, rfl, rfl, rfl, trivial⟩ ?_
                      exact ih15 (k + 1) (by omega) T3 mo3 h13 hR3 hcl2
                    · omega
                  | succ j ih55 =>
                    intro o ho0 T3 mo3 h13 h23 hR3 hcl3
                    have hho := hIh o (by omega)
                    have hho1 := hho.1
                    refine jd_iload dX4_ring_55 rfl ?_
                    refine jd_aload_n dX4_ring_57 rfl ?_
                    refine jd_get in_X4 (w_mthis hw) 10 q1476 dX4_ring_58 rfl (Nat.le_of_ble_eq_true rfl) rfl ?_
                    refine jd_pV (As := []) (rest := [.int (nI ((3 * o)))]) (ct_J2_size hlH (show 3 * (hids κ).length ≤ 900 by omega)) (jd_rv hlH 15 rfl rfl) rfl q1533 q344 q1999 q83 q346 nJ2_size dX4_ring_61 rfl rfl rfl (Nat.le_of_ble_eq_true rfl) ⟨(Nat.le_of_ble_eq_true rfl), (Nat.le_of_ble_eq_true rfl)⟩ ?_
                    refine jd_ncmp_ge (a := (3 * o)) (b := 3 * (hids κ).length) (tgt := 199) dX4_ring_64 (by decide) (by omega) (by omega) (fun z17 => ?_) (fun z18 => ?_)
                    · omega
                    · refine jd_aload_n dX4_ring_67 rfl ?_
                      refine jd_get in_X4 (w_mthis hw) 10 q1476 dX4_ring_68 rfl (Nat.le_of_ble_eq_true rfl) rfl ?_
                      refine jd_iload dX4_ring_71 rfl ?_
                      have hbx19 := hid_bx hI (j := (3 * o)) (by omega)
                      refine jd_pV (As := [.int (nI ((3 * o)))]) (rest := []) (ct_J2_get hlH (show 3 * (hids κ).length ≤ 900 by omega) (k := (3 * o)) (show (3 * o) < 3 * (hids κ).length by omega)) (jd_rv hlH 15 rfl rfl) rfl q1584 q325 q2001 q83 q327 nJ2_get dX4_ring_73 rfl rfl rfl (Nat.le_of_ble_eq_true rfl) ⟨(Nat.le_of_ble_eq_true rfl), (Nat.le_of_ble_eq_true rfl)⟩ ?_
                      refine jd_castS (jd_rvB (k := (hidN κ ((3 * o))) + 128) (by omega)) (ci := 20) rfl q1696 dX4_ring_76 ?_
                      refine jd_pV (As := []) (rest := []) (ct_J19_intValue (v := hidN κ ((3 * o))) (by omega)) (jd_rvB (k := (hidN κ ((3 * o))) + 128) (by omega)) rfl q1697 q1698 q1699 q115 q1700 nJ19_intValue dX4_ring_79 rfl rfl rfl (Nat.le_of_ble_eq_true rfl) ⟨(Nat.le_of_ble_eq_true rfl), (Nat.le_of_ble_eq_true rfl)⟩ ?_
                      refine jd_top (w := .int (nI (hS κ o))) (congrArg (fun x => Value.int (nI x)) hidN0) ?_
                      refine jd_istore (ls' := [_, _, _, _, _, _, _, _, _]) dX4_ring_82 (Nat.le_of_ble_eq_true rfl) rfl rfl ?_
                      refine jd_aload_n dX4_ring_84 rfl ?_
                      refine jd_get in_X4 (w_mthis hw) 10 q1476 dX4_ring_85 rfl (Nat.le_of_ble_eq_true rfl) rfl ?_
                      refine jd_iload dX4_ring_88 rfl ?_
                      refine jd_iconst (v := 1) dX4_ring_90 (by decide) ?_
                      refine jd_iaddN (a := (3 * k)) (b := 1) dX4_ring_91 ?_
                      have hbx20 := hid_bx hI (j := ((3 * k) + 1)) (by omega)
                      refine jd_pV (As := [.int (nI (((3 * k) + 1)))]) (rest := []) (ct_J2_get hlH (show 3 * (hids κ).length ≤ 900 by omega) (k := ((3 * k) + 1)) (show ((3 * k) + 1) < 3 * (hids κ).length by omega)) (jd_rv hlH 15 rfl rfl) rfl q1584 q325 q2001 q83 q327 nJ2_get dX4_ring_92 rfl rfl rfl (Nat.le_of_ble_eq_true rfl) ⟨(Nat.le_of_ble_eq_true rfl), (Nat.le_of_ble_eq_true rfl)⟩ ?_
                      refine jd_castS (jd_rvB (k := (hidN κ (((3 * k) + 1))) + 128) (by omega)) (ci := 20) rfl q1696 dX4_ring_95 ?_
                      refine jd_pV (As := []) (rest := []) (ct_J19_intValue (v := hidN κ (((3 * k) + 1))) (by omega)) (jd_rvB (k := (hidN κ (((3 * k) + 1))) + 128) (by omega)) rfl q1697 q1698 q1699 q115 q1700 nJ19_intValue dX4_ring_98 rfl rfl rfl (Nat.le_of_ble_eq_true rfl) ⟨(Nat.le_of_ble_eq_true rfl), (Nat.le_of_ble_eq_true rfl)⟩ ?_
                      refine jd_top (w := .int (nI (hD κ k))) (congrArg (fun x => Value.int (nI x)) hidN1) ?_
                      refine jd_istore (ls' := [_, _, _, _, _, _, _, _, _]) dX4_ring_101 (Nat.le_of_ble_eq_true rfl) rfl rfl ?_
                      refine jd_aload_n dX4_ring_103 rfl ?_
                      refine jd_get in_X4 (w_mthis hw) 10 q1476 dX4_ring_104 rfl (Nat.le_of_ble_eq_true rfl) rfl ?_
                      refine jd_iload dX4_ring_107 rfl ?_
                      refine jd_iconst (v := 2) dX4_ring_109 (by decide) ?_
                      refine jd_iaddN (a := (3 * k)) (b := 2) dX4_ring_110 ?_
                      have hbx21 := hid_bx hI (j := ((3 * k) + 2)) (by omega)
                      refine jd_pV (As := [.int (nI (((3 * k) + 2)))]) (rest := []) (ct_J2_get hlH (show 3 * (hids κ).length ≤ 900 by omega) (k := ((3 * k) + 2)) (show ((3 * k) + 2) < 3 * (hids κ).length by omega)) (jd_rv hlH 15 rfl rfl) rfl q1584 q325 q2001 q83 q327 nJ2_get dX4_ring_111 rfl rfl rfl (Nat.le_of_ble_eq_true rfl) ⟨(Nat.le_of_ble_eq_true rfl), (Nat.le_of_ble_eq_true rfl)⟩ ?_
                      refine jd_castS (jd_rvB (k := (hidN κ (((3 * k) + 2))) + 128) (by omega)) (ci := 20) rfl q1696 dX4_ring_114 ?_
                      refine jd_pV (As := []) (rest := []) (ct_J19_intValue (v := hidN κ (((3 * k) + 2))) (by omega)) (jd_rvB (k := (hidN κ (((3 * k) + 2))) + 128) (by omega)) rfl q1697 q1698 q1699 q115 q1700 nJ19_intValue dX4_ring_117 rfl rfl rfl (Nat.le_of_ble_eq_true rfl) ⟨(Nat.le_of_ble_eq_true rfl), (Nat.le_of_ble_eq_true rfl)⟩ ?_
                      refine jd_top (w := .int (nI (hN κ k))) (congrArg (fun x => Value.int (nI x)) hidN2) ?_
                      refine jd_aload_n dX4_ring_120 rfl ?_
                      refine jd_get in_X4 (w_mthis hw) 10 q1476 dX4_ring_121 rfl (Nat.le_of_ble_eq_true rfl) rfl ?_
                      refine jd_iload dX4_ring_124 rfl ?_
                      refine jd_iconst (v := 2) dX4_ring_126 (by decide) ?_
                      refine jd_iaddN (a := (3 * o)) (b := 2) dX4_ring_127 ?_
                      have hbx22 := hid_bx hI (j := ((3 * o) + 2)) (by omega)
                      refine jd_pV (As := [.int (nI (((3 * o) + 2)))]) (rest := [.int (nI ((hN κ k)))]) (ct_J2_get hlH (show 3 * (hids κ).length ≤ 900 by omega) (k := ((3 * o) + 2)) (show ((3 * o) + 2) < 3 * (hids κ).length by omega)) (jd_rv hlH 15 rfl rfl) rfl q1584 q325 q2001 q83 q327 nJ2_get dX4_ring_128 rfl rfl rfl (Nat.le_of_ble_eq_true rfl) ⟨(Nat.le_of_ble_eq_true rfl), (Nat.le_of_ble_eq_true rfl)⟩ ?_
                      refine jd_castS (jd_rvB (k := (hidN κ (((3 * o) + 2))) + 128) (by omega)) (ci := 20) rfl q1696 dX4_ring_131 ?_
                      refine jd_pV (As := []) (rest := [.int (nI ((hN κ k)))]) (ct_J19_intValue (v := hidN κ (((3 * o) + 2))) (by omega)) (jd_rvB (k := (hidN κ (((3 * o) + 2))) + 128) (by omega)) rfl q1697 q1698 q1699 q115 q1700 nJ19_intValue dX4_ring_134 rfl rfl rfl (Nat.le_of_ble_eq_true rfl) ⟨(Nat.le_of_ble_eq_true rfl), (Nat.le_of_ble_eq_true rfl)⟩ ?_
                      refine jd_top (w := .int (nI (hN κ o))) (congrArg (fun x => Value.int (nI x)) hidN2) ?_
                      refine jd_isub dX4_ring_137 ?_
                      refine jd_mabs q1772 q511 q87 q512 dX4_ring_138 (Nat.le_of_ble_eq_true rfl) (Nat.le_of_ble_eq_true rfl) ?_
                      refine jd_istore (ls' := [_, _, _, _, _, _, _, _, _]) dX4_ring_141 (Nat.le_of_ble_eq_true rfl) rfl rfl ?_
                      refine jd_iload_n dX4_ring_143 rfl ?_
                      refine jd_iload dX4_ring_144 rfl ?_
                      refine jd_ishr dX4_ring_146 ?_
                      refine jd_iconst (v := 1) dX4_ring_147 (by decide) ?_
                      refine jd_iand dX4_ring_148 ?_
                      refine jd_iconst (v := 1) dX4_ring_149 (by decide) ?_
                      refine jd_icmp_eq (tgt := 193) dX4_ring_150 (by decide) (fun z23 => ?_) (fun z24 => ?_)
                      · have hcl4 : (mo3 = true ∧ (∃ x, x < 12 ∧ T x ≠ true ∧ T3 x = true)) ∨ (¬ mo3 = true ∧ T3 = T ∧ clH κ T k ∧ ∀ j, j < o + 1 → T (hS κ k) = true → hidFit κ k j → T (hS κ j) = true) := by
                          rcases hcl3 with hk | ⟨e0, e2, hc2, hc3⟩
                          · exact Or.inl hk
                          · refine Or.inr ⟨e0, e2, hc2, fun j hj hta hl => ?_⟩
                            rcases Nat.lt_succ_iff_lt_or_eq.mp hj with w | w
                            · exact hc3 j w hta hl
                            · subst w; rw [← e2]; exact (ll_sB_has (by omega)).mp z23
                        refine jd_iincN (n := 3) (ls' := [_, _, _, _, _, _, _, _, _]) dX4_ring_193 rfl (Nat.le_of_ble_eq_true rfl) rfl rfl ?_
                        refine jd_goto (tgt := 55) dX4_ring_196 (by decide) ?_
                        refine jd_lsub [some (.ref (γ 0 0)), some (.int (nI s)), some (.int ((ll_sB T3))), some (.int (jd_b (mo3 = true))), some (.int (nI ((3 * k)))), some (.int (nI ((3 * (o + 1))))), none, none, none] ⟨rfl, rfl, rfl, rfl, rfl, rfl, trivial⟩ ?_
                        exact ih55 (o + 1) (by omega) T3 mo3 h13 h23 hR3 hcl4
                      · have hTo : ¬ T3 (hS κ o) = true := fun e => z24 ((ll_sB_has (by omega)).mpr e)
                        refine jd_aload_n dX4_ring_153 rfl ?_
                        refine jd_get in_X4 (w_mthis hw) 10 q1476 dX4_ring_154 rfl (Nat.le_of_ble_eq_true rfl) rfl ?_
                        refine jd_iload dX4_ring_157 rfl ?_
                        refine jd_iconst (v := 1) dX4_ring_159 (by decide) ?_
                        refine jd_iaddN (a := (3 * o)) (b := 1) dX4_ring_160 ?_
                        have hbx25 := hid_bx hI (j := ((3 * o) + 1)) (by omega)
                        refine jd_pV (As := [.int (nI (((3 * o) + 1)))]) (rest := []) (ct_J2_get hlH (show 3 * (hids κ).length ≤ 900 by omega) (k := ((3 * o) + 1)) (show ((3 * o) + 1) < 3 * (hids κ).length by omega)) (jd_rv hlH 15 rfl rfl) rfl q1584 q325 q2001 q83 q327 nJ2_get dX4_ring_161 rfl rfl rfl (Nat.le_of_ble_eq_true rfl) ⟨(Nat.le_of_ble_eq_true rfl), (Nat.le_of_ble_eq_true rfl)⟩ ?_
                        refine jd_castS (jd_rvB (k := (hidN κ (((3 * o) + 1))) + 128) (by omega)) (ci := 20) rfl q1696 dX4_ring_164 ?_
                        refine jd_pV (As := []) (rest := []) (ct_J19_intValue (v := hidN κ (((3 * o) + 1))) (by omega)) (jd_rvB (k := (hidN κ (((3 * o) + 1))) + 128) (by omega)) rfl q1697 q1698 q1699 q115 q1700 nJ19_intValue dX4_ring_167 rfl rfl rfl (Nat.le_of_ble_eq_true rfl) ⟨(Nat.le_of_ble_eq_true rfl), (Nat.le_of_ble_eq_true rfl)⟩ ?_
                        refine jd_top (w := .int (nI (hD κ o))) (congrArg (fun x => Value.int (nI x)) hidN1) ?_
                        refine jd_iload dX4_ring_170 rfl ?_
                        refine jd_ncmp_ne (a := (hD κ o)) (b := (hD κ k)) (tgt := 193) dX4_ring_172 (by decide) (by omega) (by omega) (fun z26 => ?_) (fun z27 => ?_)
                        · have hcl4 : (mo3 = true ∧ (∃ x, x < 12 ∧ T x ≠ true ∧ T3 x = true)) ∨ (¬ mo3 = true ∧ T3 = T ∧ clH κ T k ∧ ∀ j, j < o + 1 → T (hS κ k) = true → hidFit κ k j → T (hS κ j) = true) := by
                            rcases hcl3 with hk | ⟨e0, e2, hc2, hc3⟩
                            · exact Or.inl hk
                            · refine Or.inr ⟨e0, e2, hc2, fun j hj hta hl => ?_⟩
                              rcases Nat.lt_succ_iff_lt_or_eq.mp hj with w | w
                              · exact hc3 j w hta hl
                              · subst w; exact absurd hl.1.symm z26
                          refine jd_iincN (n := 3) (ls' := [_, _, _, _, _, _, _, _, _]) dX4_ring_193 rfl (Nat.le_of_ble_eq_true rfl) rfl rfl ?_
                          refine jd_goto (tgt := 55) dX4_ring_196 (by decide) ?_
                          refine jd_lsub [some (.ref (γ 0 0)), some (.int (nI s)), some (.int ((ll_sB T3))), some (.int (jd_b (mo3 = true))), some (.int (nI ((3 * k)))), some (.int (nI ((3 * (o + 1))))), none, none, none] ⟨rfl, rfl, rfl, rfl, rfl, rfl, trivial⟩ ?_
                          exact ih55 (o + 1) (by omega) T3 mo3 h13 h23 hR3 hcl4
                        · have hDo := z27
                          refine jd_iload dX4_ring_175 rfl ?_
                          refine jd_iconst (v := 2) dX4_ring_177 (by decide) ?_
                          refine jd_icmp_le (tgt := 184) dX4_ring_178 (by decide) (fun z28 => ?_) (fun z29 => ?_)
                          · have hfit : hidFit κ k o := ⟨hDo.symm, Int32.not_lt.mpr z28⟩
                            have h14 : ∀ x, T x = true → ll_ub T3 (hS κ o) x = true := fun x hx => by unfold ll_ub; split; rfl; exact h13 x hx
                            have h15 : T3 (hS κ k) = true := h23 _ hTk
                            have hR4 : ∀ x, ll_ub T3 (hS κ o) x = true → Reach κ s x := fun x hx => by unfold ll_ub at hx; split at hx; (rename_i e; subst e; exact Reach.link (hR3 _ h15) (by omega) (link_of (by omega) (by omega) hfit)); exact hR3 x hx
                            have h24 : ∀ x, T2 x = true → ll_ub T3 (hS κ o) x = true := fun x hx => by unfold ll_ub; split; rfl; exact h23 x hx
                            have hcl4 : ((true : Bool) = true ∧ (∃ x, x < 12 ∧ T x ≠ true ∧ ll_ub T3 (hS κ o) x = true)) ∨ (¬ (true : Bool) = true ∧ ll_ub T3 (hS κ o) = T ∧ clH κ T k ∧ ∀ j, j < o + 1 → T (hS κ k) = true → hidFit κ k j → T (hS κ j) = true) := Or.inl ⟨rfl, hS κ o, by omega, fun e => hTo (h13 _ e), by unfold ll_ub; rw [if_pos rfl]⟩
                            refine jd_iload_n dX4_ring_184 rfl ?_
                            refine jd_iconst (v := 1) dX4_ring_185 (by decide) ?_
                            refine jd_iload dX4_ring_186 rfl ?_
                            refine jd_ishl dX4_ring_188 ?_
                            refine jd_ior dX4_ring_189 ?_
                            refine jd_istore_n (ls' := [_, _, _, _, _, _, _, _, _]) dX4_ring_190 (Nat.le_of_ble_eq_true rfl) rfl rfl ?_
                            refine jd_iconst (v := 1) dX4_ring_191 (by decide) ?_
                            refine jd_istore_n (ls' := [_, _, _, _, _, _, _, _, _]) dX4_ring_192 (Nat.le_of_ble_eq_true rfl) rfl rfl ?_
                            refine jd_iincN (n := 3) (ls' := [_, _, _, _, _, _, _, _, _]) dX4_ring_193 rfl (Nat.le_of_ble_eq_true rfl) rfl rfl ?_
                            refine jd_goto (tgt := 55) dX4_ring_196 (by decide) ?_
                            refine jd_lsub [some (.ref (γ 0 0)), some (.int (nI s)), some (.int ((ll_sB (ll_ub T3 (hS κ o))))), some (.int (jd_b (true = true))), some (.int (nI ((3 * k)))), some (.int (nI ((3 * (o + 1))))), none, none, none] ⟨rfl, rfl, (congrArg (fun x => some (Value.int x)) (ll_sB_or (by omega))), rfl, rfl, rfl, trivial⟩ ?_
                            exact ih55 (o + 1) (by omega) (ll_ub T3 (hS κ o)) true h14 h24 hR4 hcl4
                          · have hcl4 : (mo3 = true ∧ (∃ x, x < 12 ∧ T x ≠ true ∧ T3 x = true)) ∨ (¬ mo3 = true ∧ T3 = T ∧ clH κ T k ∧ ∀ j, j < o + 1 → T (hS κ k) = true → hidFit κ k j → T (hS κ j) = true) := by
                              rcases hcl3 with hk | ⟨e0, e2, hc2, hc3⟩
                              · exact Or.inl hk
                              · refine Or.inr ⟨e0, e2, hc2, fun j hj hta hl => ?_⟩
                                rcases Nat.lt_succ_iff_lt_or_eq.mp hj with w | w
                                · exact hc3 j w hta hl
                                · subst w; exact absurd (Int32.not_le.mp z29) hl.2
                            refine jd_goto (tgt := 193) dX4_ring_181 (by decide) ?_
                            refine jd_iincN (n := 3) (ls' := [_, _, _, _, _, _, _, _, _]) dX4_ring_193 rfl (Nat.le_of_ble_eq_true rfl) rfl rfl ?_
                            refine jd_goto (tgt := 55) dX4_ring_196 (by decide) ?_
                            refine jd_lsub [some (.ref (γ 0 0)), some (.int (nI s)), some (.int ((ll_sB T3))), some (.int (jd_b (mo3 = true))), some (.int (nI ((3 * k)))), some (.int (nI ((3 * (o + 1))))), none, none, none] ⟨rfl, rfl, rfl, rfl, rfl, rfl, trivial⟩ ?_
                            exact ih55 (o + 1) (by omega) T3 mo3 h13 h23 hR3 hcl4
                refine jd_lsub [some (.ref (γ 0 0)), some (.int (nI s)), some (.int ((ll_sB T2))), some (.int (jd_b (mo2 = true))), some (.int (nI ((3 * k)))), some (.int (nI ((3 * 0)))), none, none, none] ⟨rfl, rfl, rfl, rfl, rfl, rfl, trivial⟩ ?_
                exact lp55_14 ((hids κ).length) 0 (by omega) T2 mo2 h1 (fun _ h => h) hR2 (hcl.imp id (fun w => ⟨w.1, w.2.1, w.2.2, fun j hj => absurd hj (Nat.not_lt_zero j)⟩))
              · have hTk : ¬ T2 (hS κ k) = true := fun e => (has01 (x := ll_sB T2) (p := hS κ k) (by omega)).mp z13 ((ll_sB_has (by omega)).mpr e)
                have hcl2 : (mo2 = true ∧ (∃ x, x < 12 ∧ T x ≠ true ∧ T2 x = true)) ∨ (¬ mo2 = true ∧ T2 = T ∧ clH κ T (k + 1)) := by
                  rcases hcl with hk | ⟨e0, e2, hc2⟩
                  · exact Or.inl hk
                  · refine Or.inr ⟨e0, e2, fun i j hi hj hta hl => ?_⟩
                    rcases Nat.lt_succ_iff_lt_or_eq.mp hi with w | w
                    · exact hc2 i j w hj hta hl
                    · subst w; rw [← e2] at hta; exact absurd hta hTk
                refine jd_goto (tgt := 199) dX4_ring_49 (by decide) ?_
                refine jd_iincN (n := 3) (ls' := [_, _, _, _, _, _, _, _, _]) dX4_ring_199 rfl (Nat.le_of_ble_eq_true rfl) rfl rfl ?_
                refine jd_goto (tgt := 15) dX4_ring_202 (by decide) ?_
                refine jd_lsub [some (.ref (γ 0 0)), some (.int (nI s)), some (.int ((ll_sB T2))), some (.int (jd_b (mo2 = true))), some (.int (nI ((3 * (k + 1))))), none, none, none, none] ⟨rfl, rfl, rfl, rfl, rfl, trivial⟩ ?_
                exact ih15 (k + 1) (by omega) T2 mo2 h1 hR2 hcl2
        refine jd_lsub [some (.ref (γ 0 0)), some (.int (nI s)), some (.int ((ll_sB T))), some (.int (jd_b (false = true))), some (.int (nI ((3 * 0)))), none, none, none, none] ⟨rfl, rfl, rfl, rfl, rfl, trivial⟩ ?_
        exact lp15_6 ((hids κ).length) 0 (by omega) T false (fun _ h => h) hR (Or.inr ⟨by decide, rfl, fun i j hi => absurd hi (Nat.not_lt_zero i)⟩)
  refine jd_lsub [some (.ref (γ 0 0)), some (.int (nI s)), some (.int ((ll_sB (fun x => decide (x = s))))), some (.int (jd_b (true = true))), none, none, none, none, none] ⟨rfl, rfl, (congrArg (fun x => some (Value.int x)) (ll_sB_one (by omega))), rfl, trivial⟩ ?_
  exact lp6_1 13 _ true (decide_eq_true rfl) (fun x hx => by have := of_decide_eq_true hx; subst this; exact Reach.one) (fun e => absurd rfl e) (Or.inr (by have := ll_mi_le12 (fun x => decide (x = s)) 12; omega))

set_option maxRecDepth 20000 in
set_option maxHeartbeats 2000000 in
theorem ct_X4_ofSleeperNow {G : jd_G} {γ : ll_B} {κ : ll_K} {μ : ll_U} {h : jd_H} (hw : WM G γ κ μ h) (hI : ll_I κ) (s : Nat) (hs : s < nS κ) (w : Nat) (hw8 : w ≤ 8) : jd_Ct G mX4_ofSleeperNow 4 (0) (0) [.ref (γ 0 0), .int (nI s), .int (nI w)] h (jd_pu h (.int (sleeperVal κ s w))) jd_no := by
  obtain ⟨⟨hG8, hS12, hP24, hH40, hN99, hH24⟩, hIg, hIs, hIp, hIh, hIl, hIq⟩ := id hI
  obtain ⟨mcG, hlG⟩ := w_mgates hw
  obtain ⟨mcS, hlS⟩ := w_msleepers hw
  obtain ⟨mcP, hlP⟩ := w_mparts hw
  obtain ⟨mcH, hlH⟩ := w_mhidings hw
  refine jd_ct (ls := [some (.ref (γ 0 0)), some (.int (nI s)), some (.int (nI w)), none, none, none]) rfl rfl (by decide) (Nat.le_of_ble_eq_true rfl) rfl ?_
  refine jd_aload_n dX4_ofSleeperNow_0 rfl ?_
  refine jd_get in_X4 (w_mthis hw) 8 q1474 dX4_ofSleeperNow_1 rfl (Nat.le_of_ble_eq_true rfl) rfl ?_
  refine jd_iload_n dX4_ofSleeperNow_4 rfl ?_
  refine jd_pV (As := [.int (nI s)]) (rest := []) (ct_J2_get hlS (show nS κ ≤ 900 by omega) (k := s) (show s < nS κ by omega)) (jd_rv hlS 15 rfl rfl) rfl q1584 q325 q2001 q83 q327 nJ2_get dX4_ofSleeperNow_5 rfl rfl rfl (Nat.le_of_ble_eq_true rfl) ⟨(Nat.le_of_ble_eq_true rfl), (Nat.le_of_ble_eq_true rfl)⟩ ?_
  refine jd_castS (jd_rv ((w_msleeper hw) s (show s < nS κ by omega)) 12 rfl rfl) (ci := 12) rfl q1593 dX4_ofSleeperNow_8 ?_
  have hs1 := hIs s hs
  have hs2 := hs1.2.1
  have hs3 := hs1.1
  refine jd_astore_n (ls' := [_, _, _, _, _, _]) dX4_ofSleeperNow_11 (Nat.le_of_ble_eq_true rfl) rfl rfl ?_
  refine jd_iconst (v := 0) dX4_ofSleeperNow_12 (by decide) ?_
  refine jd_istore (ls' := [_, _, _, _, _, _]) dX4_ofSleeperNow_13 (Nat.le_of_ble_eq_true rfl) rfl rfl ?_
  refine jd_iload_n dX4_ofSleeperNow_15 rfl ?_
  rcases (by omega : w = 0 ∨ w = 1 ∨ w = 2 ∨ w = 3 ∨ w = 4 ∨ w = 5 ∨ w = 6 ∨ w = 7 ∨ w = 8) with e1 | e1 | e1 | e1 | e1 | e1 | e1 | e1 | e1
  · refine jd_tabN (w := w) (j := 0) (off := 48) (tgt := 64) dX4_ofSleeperNow_16 e1 (by decide) (by decide) (by decide) rfl (by decide) ?_
    refine jd_aload_n dX4_ofSleeperNow_64 rfl ?_
    refine jd_getN in_X10 ((w_msleeper hw) s (show s < nS κ by omega)) 0 q1599 dX4_ofSleeperNow_65 rfl (Nat.le_of_ble_eq_true rfl) rfl ?_
    exact jd_iret dX4_ofSleeperNow_68 rfl ⟨by subst e1; rfl, rfl⟩
  · refine jd_tabN (w := w) (j := 1) (off := 53) (tgt := 69) dX4_ofSleeperNow_16 e1 (by decide) (by decide) (by decide) rfl (by decide) ?_
    refine jd_aload_n dX4_ofSleeperNow_69 rfl ?_
    refine jd_getN in_X10 ((w_msleeper hw) s (show s < nS κ by omega)) 2 q1601 dX4_ofSleeperNow_70 rfl (Nat.le_of_ble_eq_true rfl) rfl ?_
    exact jd_iret dX4_ofSleeperNow_73 rfl ⟨by subst e1; rfl, rfl⟩
  · refine jd_tabN (w := w) (j := 2) (off := 58) (tgt := 74) dX4_ofSleeperNow_16 e1 (by decide) (by decide) (by decide) rfl (by decide) ?_
    refine jd_aload_n dX4_ofSleeperNow_74 rfl ?_
    refine jd_getN in_X10 ((w_msleeper hw) s (show s < nS κ by omega)) 3 q1602 dX4_ofSleeperNow_75 rfl (Nat.le_of_ble_eq_true rfl) rfl ?_
    exact jd_iret dX4_ofSleeperNow_78 rfl ⟨by subst e1; rfl, rfl⟩
  · refine jd_tabN (w := w) (j := 3) (off := 63) (tgt := 79) dX4_ofSleeperNow_16 e1 (by decide) (by decide) (by decide) rfl (by decide) ?_
    refine jd_aload_n dX4_ofSleeperNow_79 rfl ?_
    refine jd_getN in_X10 ((w_msleeper hw) s (show s < nS κ by omega)) 4 q1604 dX4_ofSleeperNow_80 rfl (Nat.le_of_ble_eq_true rfl) rfl ?_
    exact jd_iret dX4_ofSleeperNow_83 rfl ⟨by subst e1; rfl, rfl⟩
  · refine jd_tabN (w := w) (j := 4) (off := 68) (tgt := 84) dX4_ofSleeperNow_16 e1 (by decide) (by decide) (by decide) rfl (by decide) ?_
    refine jd_aload_n dX4_ofSleeperNow_84 rfl ?_
    refine jd_getN in_X10 ((w_msleeper hw) s (show s < nS κ by omega)) 4 q1604 dX4_ofSleeperNow_85 rfl (Nat.le_of_ble_eq_true rfl) rfl ?_
    refine jd_iconst (v := (-1)) dX4_ofSleeperNow_88 (by decide) ?_
    refine jd_ocmpN_ne (tgt := 96) dX4_ofSleeperNow_89 (by decide) (fun j hj => by have := (hIs s (by omega)).2.2.1 j hj; omega) (fun z2 => ?_) (fun z3 => ?_)
    · obtain ⟨sg, hsg⟩ := Option.ne_none_iff_exists'.mp z2
      have hsg2 := hs1.2.2.1 sg hsg
      refine jd_aload_n dX4_ofSleeperNow_96 rfl ?_
      refine jd_get in_X4 (w_mthis hw) 7 q1473 dX4_ofSleeperNow_97 rfl (Nat.le_of_ble_eq_true rfl) rfl ?_
      refine jd_aload_n dX4_ofSleeperNow_100 rfl ?_
      refine jd_getN in_X10 ((w_msleeper hw) s (show s < nS κ by omega)) 4 q1604 dX4_ofSleeperNow_101 rfl (Nat.le_of_ble_eq_true rfl) rfl ?_
      refine jd_top (w := .int (nI sg)) (congrArg Value.int (by rw [hsg]; rfl)) ?_
      refine jd_pV (As := [.int (nI sg)]) (rest := []) (ct_J2_get hlG (show nG κ ≤ 900 by omega) (k := sg) (show sg < nG κ by omega)) (jd_rv hlG 15 rfl rfl) rfl q1584 q325 q2001 q83 q327 nJ2_get dX4_ofSleeperNow_104 rfl rfl rfl (Nat.le_of_ble_eq_true rfl) ⟨(Nat.le_of_ble_eq_true rfl), (Nat.le_of_ble_eq_true rfl)⟩ ?_
      refine jd_castS (jd_rv ((w_mgate hw) sg (show sg < nG κ by omega)) 11 rfl rfl) (ci := 11) rfl q1534 dX4_ofSleeperNow_107 ?_
      refine jd_iload_n dX4_ofSleeperNow_110 rfl ?_
      refine jd_pV (As := [.int (nI s)]) (rest := []) (ct_X8_place hw hI (sg) (s) (by omega) (by omega)) (jd_rv ((w_mgate hw) sg (show sg < nG κ by omega)) 11 rfl rfl) rfl q1746 q1747 q1748 q104 q1749 nX8_place dX4_ofSleeperNow_111 rfl rfl rfl (Nat.le_of_ble_eq_true rfl) ⟨(Nat.le_of_ble_eq_true rfl), (Nat.le_of_ble_eq_true rfl)⟩ ?_
      exact jd_iret dX4_ofSleeperNow_114 rfl ⟨by subst e1; simp only [sleeperVal, hsg], rfl⟩
    · refine jd_iconst (v := (-1)) dX4_ofSleeperNow_92 (by decide) ?_
      refine jd_goto (tgt := 114) dX4_ofSleeperNow_93 (by decide) ?_
      exact jd_iret dX4_ofSleeperNow_114 rfl ⟨by subst e1; simp only [sleeperVal, z3], rfl⟩
  · refine jd_tabN (w := w) (j := 5) (off := 99) (tgt := 115) dX4_ofSleeperNow_16 e1 (by decide) (by decide) (by decide) rfl (by decide) ?_
    refine jd_aload_n dX4_ofSleeperNow_115 rfl ?_
    refine jd_iload_n dX4_ofSleeperNow_116 rfl ?_
    refine jd_pV (As := [.int (nI s)]) (rest := []) (ct_X4_head hw hI (s) (by omega)) (jd_rv (w_mthis hw) 9 rfl rfl) rfl q1688 q1690 qs54 q90 q1691 nX4_head dX4_ofSleeperNow_117 rfl rfl rfl (Nat.le_of_ble_eq_true rfl) ⟨(Nat.le_of_ble_eq_true rfl), (Nat.le_of_ble_eq_true rfl)⟩ ?_
    exact jd_iret dX4_ofSleeperNow_120 rfl ⟨by subst e1; rfl, rfl⟩
  · refine jd_tabN (w := w) (j := 6) (off := 105) (tgt := 121) dX4_ofSleeperNow_16 e1 (by decide) (by decide) (by decide) rfl (by decide) ?_
    refine jd_aload_n dX4_ofSleeperNow_121 rfl ?_
    refine jd_getN in_X10 ((w_msleeper hw) s (show s < nS κ by omega)) 8 q1610 dX4_ofSleeperNow_122 rfl (Nat.le_of_ble_eq_true rfl) rfl ?_
    exact jd_iret dX4_ofSleeperNow_125 rfl ⟨by subst e1; exact congrArg (fun x => some (Value.int x)) (oV_val (κ := κ) (s := s)), rfl⟩
  · refine jd_tabN (w := w) (j := 7) (off := 110) (tgt := 126) dX4_ofSleeperNow_16 e1 (by decide) (by decide) (by decide) rfl (by decide) ?_
    refine jd_aload_n dX4_ofSleeperNow_126 rfl ?_
    refine jd_iload_n dX4_ofSleeperNow_127 rfl ?_
    refine jd_pV (As := [.int (nI s)]) (rest := []) (ct_X4_ring hw hI (s) (by omega)) (jd_rv (w_mthis hw) 9 rfl rfl) rfl q1896 q1898 qs70 q90 q1899 nX4_ring dX4_ofSleeperNow_128 rfl rfl rfl (Nat.le_of_ble_eq_true rfl) ⟨(Nat.le_of_ble_eq_true rfl), (Nat.le_of_ble_eq_true rfl)⟩ ?_
    exact jd_iret dX4_ofSleeperNow_131 rfl ⟨by subst e1; rfl, rfl⟩
  · refine jd_tabD (w := w) (j := 8) (tgt := 132) dX4_ofSleeperNow_16 e1 (by decide) (by decide) (by decide) ?_
    refine jd_iconst (v := 0) dX4_ofSleeperNow_132 (by decide) ?_
    refine jd_istore (ls' := [_, _, _, _, _, _]) dX4_ofSleeperNow_133 (Nat.le_of_ble_eq_true rfl) rfl rfl ?_
    have lp135_4 : ∀ (j : Nat) (k : Nat) (hk0 : k + j = (hids κ).length), jd_W G mX4_ofSleeperNow 4 (0) (0) 135 [some (.ref (γ 0 0)), some (.int (nI s)), some (.int (nI w)), some (.ref (γ 5 s)), some (.int ((ll_cnt (fun p => hS κ p = s) k))), some (.int (nI ((3 * k))))] [] h (jd_pu h (.int (sleeperVal κ s w))) jd_no := by
      intro j
      induction j with
      | zero =>
        intro k hk0
        obtain rfl : k = (hids κ).length := by omega
        refine jd_iload dX4_ofSleeperNow_135 rfl ?_
        refine jd_aload_n dX4_ofSleeperNow_137 rfl ?_
        refine jd_get in_X4 (w_mthis hw) 10 q1476 dX4_ofSleeperNow_138 rfl (Nat.le_of_ble_eq_true rfl) rfl ?_
        refine jd_pV (As := []) (rest := [.int (nI ((3 * ((hids κ).length))))]) (ct_J2_size hlH (show 3 * (hids κ).length ≤ 900 by omega)) (jd_rv hlH 15 rfl rfl) rfl q1533 q344 q1999 q83 q346 nJ2_size dX4_ofSleeperNow_141 rfl rfl rfl (Nat.le_of_ble_eq_true rfl) ⟨(Nat.le_of_ble_eq_true rfl), (Nat.le_of_ble_eq_true rfl)⟩ ?_
        refine jd_ncmp_ge (a := (3 * ((hids κ).length))) (b := 3 * (hids κ).length) (tgt := 182) dX4_ofSleeperNow_144 (by decide) (by omega) (by omega) (fun z5 => ?_) (fun z6 => ?_)
        · refine jd_iload dX4_ofSleeperNow_182 rfl ?_
          exact jd_iret dX4_ofSleeperNow_184 rfl ⟨by subst e1; rfl, rfl⟩
        · omega
      | succ j ih135 =>
        intro k hk0
        have hhk := hIh k (by omega)
        have hhk1 := hhk.1
        refine jd_iload dX4_ofSleeperNow_135 rfl ?_
        refine jd_aload_n dX4_ofSleeperNow_137 rfl ?_
        refine jd_get in_X4 (w_mthis hw) 10 q1476 dX4_ofSleeperNow_138 rfl (Nat.le_of_ble_eq_true rfl) rfl ?_
        refine jd_pV (As := []) (rest := [.int (nI ((3 * k)))]) (ct_J2_size hlH (show 3 * (hids κ).length ≤ 900 by omega)) (jd_rv hlH 15 rfl rfl) rfl q1533 q344 q1999 q83 q346 nJ2_size dX4_ofSleeperNow_141 rfl rfl rfl (Nat.le_of_ble_eq_true rfl) ⟨(Nat.le_of_ble_eq_true rfl), (Nat.le_of_ble_eq_true rfl)⟩ ?_
        refine jd_ncmp_ge (a := (3 * k)) (b := 3 * (hids κ).length) (tgt := 182) dX4_ofSleeperNow_144 (by decide) (by omega) (by omega) (fun z7 => ?_) (fun z8 => ?_)
        · omega
        · refine jd_iload dX4_ofSleeperNow_147 rfl ?_
          refine jd_aload_n dX4_ofSleeperNow_149 rfl ?_
          refine jd_get in_X4 (w_mthis hw) 10 q1476 dX4_ofSleeperNow_150 rfl (Nat.le_of_ble_eq_true rfl) rfl ?_
          refine jd_iload dX4_ofSleeperNow_153 rfl ?_
          have hbx9 := hid_bx hI (j := (3 * k)) (by omega)
          refine jd_pV (As := [.int (nI ((3 * k)))]) (rest := [.int ((ll_cnt (fun p => hS κ p = s) k))]) (ct_J2_get hlH (show 3 * (hids κ).length ≤ 900 by omega) (k := (3 * k)) (show (3 * k) < 3 * (hids κ).length by omega)) (jd_rv hlH 15 rfl rfl) rfl q1584 q325 q2001 q83 q327 nJ2_get dX4_ofSleeperNow_155 rfl rfl rfl (Nat.le_of_ble_eq_true rfl) ⟨(Nat.le_of_ble_eq_true rfl), (Nat.le_of_ble_eq_true rfl)⟩ ?_
          refine jd_castS (jd_rvB (k := (hidN κ ((3 * k))) + 128) (by omega)) (ci := 20) rfl q1696 dX4_ofSleeperNow_158 ?_
          refine jd_pV (As := []) (rest := [.int ((ll_cnt (fun p => hS κ p = s) k))]) (ct_J19_intValue (v := hidN κ ((3 * k))) (by omega)) (jd_rvB (k := (hidN κ ((3 * k))) + 128) (by omega)) rfl q1697 q1698 q1699 q115 q1700 nJ19_intValue dX4_ofSleeperNow_161 rfl rfl rfl (Nat.le_of_ble_eq_true rfl) ⟨(Nat.le_of_ble_eq_true rfl), (Nat.le_of_ble_eq_true rfl)⟩ ?_
          refine jd_top (w := .int (nI (hS κ k))) (congrArg (fun x => Value.int (nI x)) hidN0) ?_
          refine jd_iload_n dX4_ofSleeperNow_164 rfl ?_
          refine jd_mg2 173 (.int (jd_b (((hS κ k) = s)))) (fun hj10 => ?_) ?_
          · refine jd_ncmp_ne (a := (hS κ k)) (b := s) (tgt := 172) dX4_ofSleeperNow_165 (by decide) (by omega) (by omega) (fun z11 => ?_) (fun z12 => ?_)
            · refine jd_iconst (v := 0) dX4_ofSleeperNow_172 (by decide) ?_
              exact jd_top (congrArg Value.int (jd_b0 z11).symm) hj10
            · refine jd_iconst (v := 1) dX4_ofSleeperNow_168 (by decide) ?_
              refine jd_goto (tgt := 173) dX4_ofSleeperNow_169 (by decide) ?_
              exact jd_top (congrArg Value.int (jd_b1 z12).symm) hj10
          · refine jd_iadd dX4_ofSleeperNow_173 ?_
            refine jd_istore (ls' := [_, _, _, _, _, _]) dX4_ofSleeperNow_174 (Nat.le_of_ble_eq_true rfl) rfl rfl ?_
            refine jd_iincN (n := 3) (ls' := [_, _, _, _, _, _]) dX4_ofSleeperNow_176 rfl (Nat.le_of_ble_eq_true rfl) rfl rfl ?_
            refine jd_goto (tgt := 135) dX4_ofSleeperNow_179 (by decide) ?_
            refine jd_lsub [some (.ref (γ 0 0)), some (.int (nI s)), some (.int (nI w)), some (.ref (γ 5 s)), some (.int ((ll_cnt (fun p => hS κ p = s) (k + 1)))), some (.int (nI ((3 * (k + 1)))))] ⟨rfl, rfl, rfl, rfl, rfl, rfl, trivial⟩ ?_
            exact ih135 (k + 1) (by omega)
    refine jd_lsub [some (.ref (γ 0 0)), some (.int (nI s)), some (.int (nI w)), some (.ref (γ 5 s)), some (.int ((ll_cnt (fun p => hS κ p = s) 0))), some (.int (nI ((3 * 0))))] ⟨rfl, rfl, rfl, rfl, rfl, rfl, trivial⟩ ?_
    exact lp135_4 ((hids κ).length) 0 (by omega)

set_option maxRecDepth 20000 in
set_option maxHeartbeats 2000000 in
theorem ct_X4_nightNow {G : jd_G} {γ : ll_B} {κ : ll_K} {μ : ll_U} {h : jd_H} (hw : WM G γ κ μ h) (hI : ll_I κ) (w : Nat) (hw8 : w ≤ 16) : jd_Ct G mX4_nightNow 3 (1) (4) [.ref (γ 0 0), .int (nI w)] h (jd_pu h (.int (nightVal κ w))) jd_no := by
  obtain ⟨⟨hG8, hS12, hP24, hH40, hN99, hH24⟩, hIg, hIs, hIp, hIh, hIl, hIq⟩ := id hI
  obtain ⟨mcG, hlG⟩ := w_mgates hw
  obtain ⟨mcS, hlS⟩ := w_msleepers hw
  obtain ⟨mcP, hlP⟩ := w_mparts hw
  obtain ⟨mcH, hlH⟩ := w_mhidings hw
  refine jd_ct (ls := [some (.ref (γ 0 0)), some (.int (nI w)), none, none, none, none, none]) rfl rfl (by decide) (Nat.le_of_ble_eq_true rfl) rfl ?_
  refine jd_iconst (v := 0) dX4_nightNow_0 (by decide) ?_
  refine jd_istore_n (ls' := [_, _, _, _, _, _, _]) dX4_nightNow_1 (Nat.le_of_ble_eq_true rfl) rfl rfl ?_
  refine jd_iload_n dX4_nightNow_2 rfl ?_
  rcases (by omega : w = 0 ∨ w = 1 ∨ w = 2 ∨ w = 3 ∨ w = 4 ∨ w = 5 ∨ w = 6 ∨ w = 7 ∨ w = 8 ∨ w = 9 ∨ w = 10 ∨ w = 11 ∨ w = 12 ∨ w = 13 ∨ w = 14 ∨ w = 15 ∨ w = 16) with e1 | e1 | e1 | e1 | e1 | e1 | e1 | e1 | e1 | e1 | e1 | e1 | e1 | e1 | e1 | e1 | e1
  · refine jd_tabN (w := w) (j := 0) (off := 77) (tgt := 80) dX4_nightNow_3 e1 (by decide) (by decide) (by decide) rfl (by decide) ?_
    refine jd_aload_n dX4_nightNow_80 rfl ?_
    refine jd_get in_X4 (w_mthis hw) 1 q1467 dX4_nightNow_81 rfl (Nat.le_of_ble_eq_true rfl) rfl ?_
    exact jd_iret dX4_nightNow_84 rfl ⟨by subst e1; rfl, rfl⟩
  · refine jd_tabN (w := w) (j := 1) (off := 82) (tgt := 85) dX4_nightNow_3 e1 (by decide) (by decide) (by decide) rfl (by decide) ?_
    refine jd_aload_n dX4_nightNow_85 rfl ?_
    refine jd_get in_X4 (w_mthis hw) 2 q1468 dX4_nightNow_86 rfl (Nat.le_of_ble_eq_true rfl) rfl ?_
    exact jd_iret dX4_nightNow_89 rfl ⟨by subst e1; rfl, rfl⟩
  · refine jd_tabN (w := w) (j := 2) (off := 87) (tgt := 90) dX4_nightNow_3 e1 (by decide) (by decide) (by decide) rfl (by decide) ?_
    refine jd_aload_n dX4_nightNow_90 rfl ?_
    refine jd_get in_X4 (w_mthis hw) 7 q1473 dX4_nightNow_91 rfl (Nat.le_of_ble_eq_true rfl) rfl ?_
    refine jd_pV (As := []) (rest := []) (ct_J2_size hlG (show nG κ ≤ 900 by omega)) (jd_rv hlG 15 rfl rfl) rfl q1533 q344 q1999 q83 q346 nJ2_size dX4_nightNow_94 rfl rfl rfl (Nat.le_of_ble_eq_true rfl) ⟨(Nat.le_of_ble_eq_true rfl), (Nat.le_of_ble_eq_true rfl)⟩ ?_
    exact jd_iret dX4_nightNow_97 rfl ⟨by subst e1; rfl, rfl⟩
  · refine jd_tabN (w := w) (j := 3) (off := 95) (tgt := 98) dX4_nightNow_3 e1 (by decide) (by decide) (by decide) rfl (by decide) ?_
    refine jd_aload_n dX4_nightNow_98 rfl ?_
    refine jd_get in_X4 (w_mthis hw) 8 q1474 dX4_nightNow_99 rfl (Nat.le_of_ble_eq_true rfl) rfl ?_
    refine jd_pV (As := []) (rest := []) (ct_J2_size hlS (show nS κ ≤ 900 by omega)) (jd_rv hlS 15 rfl rfl) rfl q1533 q344 q1999 q83 q346 nJ2_size dX4_nightNow_102 rfl rfl rfl (Nat.le_of_ble_eq_true rfl) ⟨(Nat.le_of_ble_eq_true rfl), (Nat.le_of_ble_eq_true rfl)⟩ ?_
    exact jd_iret dX4_nightNow_105 rfl ⟨by subst e1; rfl, rfl⟩
  · refine jd_tabN (w := w) (j := 4) (off := 103) (tgt := 106) dX4_nightNow_3 e1 (by decide) (by decide) (by decide) rfl (by decide) ?_
    refine jd_aload_n dX4_nightNow_106 rfl ?_
    refine jd_get in_X4 (w_mthis hw) 8 q1474 dX4_nightNow_107 rfl (Nat.le_of_ble_eq_true rfl) rfl ?_
    refine jd_callV (As := []) (rest := []) (ct_J2_iterator hlS (show nS κ ≤ 900 by omega)) (jd_rv hlS 15 rfl rfl) rfl q1814 q1815 q1816 q83 q1817 nJ2_iterator dX4_nightNow_110 rfl rfl rfl (Nat.le_of_ble_eq_true rfl) ⟨(Nat.le_of_ble_eq_true rfl), (Nat.le_of_ble_eq_true rfl), by omega, by omega⟩ (fun rv1 hn1 hq1 => ?_) jd_nox
    obtain ⟨q, hq, rfl, he1⟩ := hq1
    rw [he1]
    refine jd_heq (h' := (jd_up h (0, q) (q, .inl (.inr (16, [.int (nI 0), .int (itL 0), .int (mcS), .ref (γ 0 3)]))))) rfl ?_
    refine jd_astore_n (ls' := [_, _, _, _, _, _, _]) dX4_nightNow_113 (Nat.le_of_ble_eq_true rfl) rfl rfl ?_
    have lp114_3 : ∀ (j : Nat) (k : Nat) (hk0 : k + j = nS κ), jd_W G mX4_nightNow 3 (1 - 1) (4 - 4) 114 [some (.ref (γ 0 0)), some (.int (nI w)), some (.int ((ll_cnt (fun p => sRest κ p = 2) k))), some (.ref (q)), none, none, none] [] (jd_up h (0, q) (q, .inl (.inr (16, [.int (nI k), .int (itL k), .int (mcS), .ref (γ 0 3)])))) (jd_pu h (.int (nightVal κ w))) jd_no := by
      intro j
      induction j with
      | zero =>
        intro k hk0
        obtain rfl : k = nS κ := by omega
        refine jd_aload_n dX4_nightNow_114 rfl ?_
        refine jd_pF (n := 0) (As := []) (rest := []) (ct_J24_hasNext (jd_tmp hlS) (show nS κ ≤ 900 by omega) (c := nS κ) jd_up_s (show nS κ ≤ nS κ by omega)) (jd_rv jd_up_s 16 rfl rfl) (ci := 16) rfl (List.mem_of_getElem? (i := 5) rfl) rfl q1838 q1842 q1844 q122 q1846 q1840 q1845 q1843 q1841 ⟨by decide, by decide, by decide +kernel⟩ dX4_nightNow_115 rfl rfl (Nat.le_of_ble_eq_true rfl) ⟨(Nat.le_of_ble_eq_true rfl), (Nat.le_of_ble_eq_true rfl)⟩ ?_
        refine jd_bif_eq (tgt := 154) dX4_nightNow_120 (by decide) (fun z4 => ?_) (fun z5 => ?_)
        · refine jd_drop (jd_tmp_keep hq) ?_
          refine jd_iload_n dX4_nightNow_154 rfl ?_
          exact jd_iret dX4_nightNow_155 rfl ⟨by subst e1; rfl, rfl⟩
        · omega
      | succ j ih114 =>
        intro k hk0
        have hs1 := hIs k (by omega)
        have hs2 := hs1.2.1
        refine jd_aload_n dX4_nightNow_114 rfl ?_
        refine jd_pF (n := 0) (As := []) (rest := []) (ct_J24_hasNext (jd_tmp hlS) (show nS κ ≤ 900 by omega) (c := k) jd_up_s (show k ≤ nS κ by omega)) (jd_rv jd_up_s 16 rfl rfl) (ci := 16) rfl (List.mem_of_getElem? (i := 5) rfl) rfl q1838 q1842 q1844 q122 q1846 q1840 q1845 q1843 q1841 ⟨by decide, by decide, by decide +kernel⟩ dX4_nightNow_115 rfl rfl (Nat.le_of_ble_eq_true rfl) ⟨(Nat.le_of_ble_eq_true rfl), (Nat.le_of_ble_eq_true rfl)⟩ ?_
        refine jd_bif_eq (tgt := 154) dX4_nightNow_120 (by decide) (fun z6 => ?_) (fun z7 => ?_)
        · omega
        · refine jd_aload_n dX4_nightNow_123 rfl ?_
          refine jd_callF (n := 0) (As := []) (rest := []) (ct_J24_next (jd_tmp hlS) (show nS κ ≤ 900 by omega) (c := k) jd_up_s (show k < nS κ by omega)) (jd_rv jd_up_s 16 rfl rfl) (ci := 16) rfl (List.mem_of_getElem? (i := 6) rfl) rfl q1848 q1851 q1853 q122 q1855 q1850 q1854 q1852 q1841 ⟨by decide, by decide, by decide +kernel⟩ dX4_nightNow_124 rfl rfl (Nat.le_of_ble_eq_true rfl) ⟨(Nat.le_of_ble_eq_true rfl), (Nat.le_of_ble_eq_true rfl), by omega, by omega⟩ (fun rv7 hn7 hq7 => ?_) jd_nox
          obtain ⟨rfl, he7⟩ := hq7
          rw [he7, jd_up_up]
          refine jd_castS (jd_rv (jd_tmp ((w_msleeper hw) k (show k < nS κ by omega))) 12 rfl rfl) (ci := 12) rfl q1593 dX4_nightNow_129 ?_
          refine jd_astore (ls' := [_, _, _, _, _, _, _]) dX4_nightNow_132 (Nat.le_of_ble_eq_true rfl) rfl rfl ?_
          refine jd_iload_n dX4_nightNow_134 rfl ?_
          refine jd_aload dX4_nightNow_135 rfl ?_
          refine jd_getN in_X10 (jd_tmp ((w_msleeper hw) k (show k < nS κ by omega))) 3 q1602 dX4_nightNow_137 rfl (Nat.le_of_ble_eq_true rfl) rfl ?_
          refine jd_iconst (v := 2) dX4_nightNow_140 (by decide) ?_
          refine jd_mg2 149 (.int (jd_b (((sRest κ k) = 2)))) (fun hj9 => ?_) ?_
          · refine jd_ncmp_ne (a := (sRest κ k)) (b := 2) (tgt := 148) dX4_nightNow_141 (by decide) (by omega) (by omega) (fun z10 => ?_) (fun z11 => ?_)
            · refine jd_iconst (v := 0) dX4_nightNow_148 (by decide) ?_
              exact jd_top (congrArg Value.int (jd_b0 z10).symm) hj9
            · refine jd_iconst (v := 1) dX4_nightNow_144 (by decide) ?_
              refine jd_goto (tgt := 149) dX4_nightNow_145 (by decide) ?_
              exact jd_top (congrArg Value.int (jd_b1 z11).symm) hj9
          · refine jd_iadd dX4_nightNow_149 ?_
            refine jd_istore_n (ls' := [_, _, _, _, _, _, _]) dX4_nightNow_150 (Nat.le_of_ble_eq_true rfl) rfl rfl ?_
            refine jd_goto (tgt := 114) dX4_nightNow_151 (by decide) ?_
            refine jd_heq (h' := (jd_up h (0, q) (q, .inl (.inr (16, [.int (nI (k + 1)), .int (itL (k + 1)), .int (mcS), .ref (γ 0 3)]))))) rfl ?_
            refine jd_lsub [some (.ref (γ 0 0)), some (.int (nI w)), some (.int ((ll_cnt (fun p => sRest κ p = 2) (k + 1)))), some (.ref (q)), none, none, none] ⟨rfl, rfl, rfl, rfl, trivial⟩ ?_
            exact ih114 (k + 1) (by omega)
    refine jd_lsub [some (.ref (γ 0 0)), some (.int (nI w)), some (.int ((ll_cnt (fun p => sRest κ p = 2) 0))), some (.ref (q)), none, none, none] ⟨rfl, rfl, rfl, rfl, trivial⟩ ?_
    exact lp114_3 (nS κ) 0 (by omega)
  · refine jd_tabN (w := w) (j := 5) (off := 153) (tgt := 156) dX4_nightNow_3 e1 (by decide) (by decide) (by decide) rfl (by decide) ?_
    refine jd_aload_n dX4_nightNow_156 rfl ?_
    refine jd_get in_X4 (w_mthis hw) 9 q1475 dX4_nightNow_157 rfl (Nat.le_of_ble_eq_true rfl) rfl ?_
    refine jd_pV (As := []) (rest := []) (ct_J2_size hlP (show nP κ ≤ 900 by omega)) (jd_rv hlP 15 rfl rfl) rfl q1533 q344 q1999 q83 q346 nJ2_size dX4_nightNow_160 rfl rfl rfl (Nat.le_of_ble_eq_true rfl) ⟨(Nat.le_of_ble_eq_true rfl), (Nat.le_of_ble_eq_true rfl)⟩ ?_
    exact jd_iret dX4_nightNow_163 rfl ⟨by subst e1; rfl, rfl⟩
  · refine jd_tabN (w := w) (j := 6) (off := 161) (tgt := 164) dX4_nightNow_3 e1 (by decide) (by decide) (by decide) rfl (by decide) ?_
    refine jd_aload_n dX4_nightNow_164 rfl ?_
    refine jd_get in_X4 (w_mthis hw) 9 q1475 dX4_nightNow_165 rfl (Nat.le_of_ble_eq_true rfl) rfl ?_
    refine jd_callV (As := []) (rest := []) (ct_J2_iterator hlP (show nP κ ≤ 900 by omega)) (jd_rv hlP 15 rfl rfl) rfl q1814 q1815 q1816 q83 q1817 nJ2_iterator dX4_nightNow_168 rfl rfl rfl (Nat.le_of_ble_eq_true rfl) ⟨(Nat.le_of_ble_eq_true rfl), (Nat.le_of_ble_eq_true rfl), by omega, by omega⟩ (fun rv11 hn11 hq11 => ?_) jd_nox
    obtain ⟨q, hq, rfl, he11⟩ := hq11
    rw [he11]
    refine jd_heq (h' := (jd_up h (0, q) (q, .inl (.inr (16, [.int (nI 0), .int (itL 0), .int (mcP), .ref (γ 0 4)]))))) rfl ?_
    refine jd_astore_n (ls' := [_, _, _, _, _, _, _]) dX4_nightNow_171 (Nat.le_of_ble_eq_true rfl) rfl rfl ?_
    have lp172_13 : ∀ (j : Nat) (k : Nat) (hk0 : k + j = nP κ), jd_W G mX4_nightNow 3 (1 - 1) (4 - 4) 172 [some (.ref (γ 0 0)), some (.int (nI w)), some (.int ((ll_cnt (fun p => pFate κ p = (w - 5)) k))), some (.ref (q)), none, none, none] [] (jd_up h (0, q) (q, .inl (.inr (16, [.int (nI k), .int (itL k), .int (mcP), .ref (γ 0 4)])))) (jd_pu h (.int (nightVal κ w))) jd_no := by
      intro j
      induction j with
      | zero =>
        intro k hk0
        obtain rfl : k = nP κ := by omega
        refine jd_aload_n dX4_nightNow_172 rfl ?_
        refine jd_pF (n := 0) (As := []) (rest := []) (ct_J24_hasNext (jd_tmp hlP) (show nP κ ≤ 900 by omega) (c := nP κ) jd_up_s (show nP κ ≤ nP κ by omega)) (jd_rv jd_up_s 16 rfl rfl) (ci := 16) rfl (List.mem_of_getElem? (i := 5) rfl) rfl q1838 q1842 q1844 q122 q1846 q1840 q1845 q1843 q1841 ⟨by decide, by decide, by decide +kernel⟩ dX4_nightNow_173 rfl rfl (Nat.le_of_ble_eq_true rfl) ⟨(Nat.le_of_ble_eq_true rfl), (Nat.le_of_ble_eq_true rfl)⟩ ?_
        refine jd_bif_eq (tgt := 214) dX4_nightNow_178 (by decide) (fun z14 => ?_) (fun z15 => ?_)
        · refine jd_drop (jd_tmp_keep hq) ?_
          refine jd_iload_n dX4_nightNow_214 rfl ?_
          exact jd_iret dX4_nightNow_215 rfl ⟨by subst e1; rfl, rfl⟩
        · omega
      | succ j ih172 =>
        intro k hk0
        have hp1 := hIp k (by omega)
        have hp2 := hp1.2.2.2.1
        refine jd_aload_n dX4_nightNow_172 rfl ?_
        refine jd_pF (n := 0) (As := []) (rest := []) (ct_J24_hasNext (jd_tmp hlP) (show nP κ ≤ 900 by omega) (c := k) jd_up_s (show k ≤ nP κ by omega)) (jd_rv jd_up_s 16 rfl rfl) (ci := 16) rfl (List.mem_of_getElem? (i := 5) rfl) rfl q1838 q1842 q1844 q122 q1846 q1840 q1845 q1843 q1841 ⟨by decide, by decide, by decide +kernel⟩ dX4_nightNow_173 rfl rfl (Nat.le_of_ble_eq_true rfl) ⟨(Nat.le_of_ble_eq_true rfl), (Nat.le_of_ble_eq_true rfl)⟩ ?_
        refine jd_bif_eq (tgt := 214) dX4_nightNow_178 (by decide) (fun z16 => ?_) (fun z17 => ?_)
        · omega
        · refine jd_aload_n dX4_nightNow_181 rfl ?_
          refine jd_callF (n := 0) (As := []) (rest := []) (ct_J24_next (jd_tmp hlP) (show nP κ ≤ 900 by omega) (c := k) jd_up_s (show k < nP κ by omega)) (jd_rv jd_up_s 16 rfl rfl) (ci := 16) rfl (List.mem_of_getElem? (i := 6) rfl) rfl q1848 q1851 q1853 q122 q1855 q1850 q1854 q1852 q1841 ⟨by decide, by decide, by decide +kernel⟩ dX4_nightNow_182 rfl rfl (Nat.le_of_ble_eq_true rfl) ⟨(Nat.le_of_ble_eq_true rfl), (Nat.le_of_ble_eq_true rfl), by omega, by omega⟩ (fun rv17 hn17 hq17 => ?_) jd_nox
          obtain ⟨rfl, he17⟩ := hq17
          rw [he17, jd_up_up]
          refine jd_castS (jd_rv (jd_tmp ((w_mpart hw) k (show k < nP κ by omega))) 13 rfl rfl) (ci := 13) rfl q1638 dX4_nightNow_187 ?_
          refine jd_astore (ls' := [_, _, _, _, _, _, _]) dX4_nightNow_190 (Nat.le_of_ble_eq_true rfl) rfl rfl ?_
          refine jd_iload_n dX4_nightNow_192 rfl ?_
          refine jd_aload dX4_nightNow_193 rfl ?_
          refine jd_getN in_X12 (jd_tmp ((w_mpart hw) k (show k < nP κ by omega))) 3 q1648 dX4_nightNow_195 rfl (Nat.le_of_ble_eq_true rfl) rfl ?_
          refine jd_iload_n dX4_nightNow_198 rfl ?_
          refine jd_iconst (v := 5) dX4_nightNow_199 (by decide) ?_
          refine jd_isubN (a := w) (b := 5) dX4_nightNow_200 (by omega) ?_
          refine jd_mg2 209 (.int (jd_b (((pFate κ k) = (w - 5))))) (fun hj19 => ?_) ?_
          · refine jd_ncmp_ne (a := (pFate κ k)) (b := (w - 5)) (tgt := 208) dX4_nightNow_201 (by decide) (by omega) (by omega) (fun z20 => ?_) (fun z21 => ?_)
            · refine jd_iconst (v := 0) dX4_nightNow_208 (by decide) ?_
              exact jd_top (congrArg Value.int (jd_b0 z20).symm) hj19
            · refine jd_iconst (v := 1) dX4_nightNow_204 (by decide) ?_
              refine jd_goto (tgt := 209) dX4_nightNow_205 (by decide) ?_
              exact jd_top (congrArg Value.int (jd_b1 z21).symm) hj19
          · refine jd_iadd dX4_nightNow_209 ?_
            refine jd_istore_n (ls' := [_, _, _, _, _, _, _]) dX4_nightNow_210 (Nat.le_of_ble_eq_true rfl) rfl rfl ?_
            refine jd_goto (tgt := 172) dX4_nightNow_211 (by decide) ?_
            refine jd_heq (h' := (jd_up h (0, q) (q, .inl (.inr (16, [.int (nI (k + 1)), .int (itL (k + 1)), .int (mcP), .ref (γ 0 4)]))))) rfl ?_
            refine jd_lsub [some (.ref (γ 0 0)), some (.int (nI w)), some (.int ((ll_cnt (fun p => pFate κ p = (w - 5)) (k + 1)))), some (.ref (q)), none, none, none] ⟨rfl, rfl, rfl, rfl, trivial⟩ ?_
            exact ih172 (k + 1) (by omega)
    refine jd_lsub [some (.ref (γ 0 0)), some (.int (nI w)), some (.int ((ll_cnt (fun p => pFate κ p = (w - 5)) 0))), some (.ref (q)), none, none, none] ⟨rfl, rfl, rfl, rfl, trivial⟩ ?_
    exact lp172_13 (nP κ) 0 (by omega)
  · refine jd_tabN (w := w) (j := 7) (off := 161) (tgt := 164) dX4_nightNow_3 e1 (by decide) (by decide) (by decide) rfl (by decide) ?_
    refine jd_aload_n dX4_nightNow_164 rfl ?_
    refine jd_get in_X4 (w_mthis hw) 9 q1475 dX4_nightNow_165 rfl (Nat.le_of_ble_eq_true rfl) rfl ?_
    refine jd_callV (As := []) (rest := []) (ct_J2_iterator hlP (show nP κ ≤ 900 by omega)) (jd_rv hlP 15 rfl rfl) rfl q1814 q1815 q1816 q83 q1817 nJ2_iterator dX4_nightNow_168 rfl rfl rfl (Nat.le_of_ble_eq_true rfl) ⟨(Nat.le_of_ble_eq_true rfl), (Nat.le_of_ble_eq_true rfl), by omega, by omega⟩ (fun rv21 hn21 hq21 => ?_) jd_nox
    obtain ⟨q, hq, rfl, he21⟩ := hq21
    rw [he21]
    refine jd_heq (h' := (jd_up h (0, q) (q, .inl (.inr (16, [.int (nI 0), .int (itL 0), .int (mcP), .ref (γ 0 4)]))))) rfl ?_
    refine jd_astore_n (ls' := [_, _, _, _, _, _, _]) dX4_nightNow_171 (Nat.le_of_ble_eq_true rfl) rfl rfl ?_
    have lp172_23 : ∀ (j : Nat) (k : Nat) (hk0 : k + j = nP κ), jd_W G mX4_nightNow 3 (1 - 1) (4 - 4) 172 [some (.ref (γ 0 0)), some (.int (nI w)), some (.int ((ll_cnt (fun p => pFate κ p = (w - 5)) k))), some (.ref (q)), none, none, none] [] (jd_up h (0, q) (q, .inl (.inr (16, [.int (nI k), .int (itL k), .int (mcP), .ref (γ 0 4)])))) (jd_pu h (.int (nightVal κ w))) jd_no := by
      intro j
      induction j with
      | zero =>
        intro k hk0
        obtain rfl : k = nP κ := by omega
        refine jd_aload_n dX4_nightNow_172 rfl ?_
        refine jd_pF (n := 0) (As := []) (rest := []) (ct_J24_hasNext (jd_tmp hlP) (show nP κ ≤ 900 by omega) (c := nP κ) jd_up_s (show nP κ ≤ nP κ by omega)) (jd_rv jd_up_s 16 rfl rfl) (ci := 16) rfl (List.mem_of_getElem? (i := 5) rfl) rfl q1838 q1842 q1844 q122 q1846 q1840 q1845 q1843 q1841 ⟨by decide, by decide, by decide +kernel⟩ dX4_nightNow_173 rfl rfl (Nat.le_of_ble_eq_true rfl) ⟨(Nat.le_of_ble_eq_true rfl), (Nat.le_of_ble_eq_true rfl)⟩ ?_
        refine jd_bif_eq (tgt := 214) dX4_nightNow_178 (by decide) (fun z24 => ?_) (fun z25 => ?_)
        · refine jd_drop (jd_tmp_keep hq) ?_
          refine jd_iload_n dX4_nightNow_214 rfl ?_
          exact jd_iret dX4_nightNow_215 rfl ⟨by subst e1; rfl, rfl⟩
        · omega
      | succ j ih172 =>
        intro k hk0
        have hp1 := hIp k (by omega)
        have hp2 := hp1.2.2.2.1
        refine jd_aload_n dX4_nightNow_172 rfl ?_
        refine jd_pF (n := 0) (As := []) (rest := []) (ct_J24_hasNext (jd_tmp hlP) (show nP κ ≤ 900 by omega) (c := k) jd_up_s (show k ≤ nP κ by omega)) (jd_rv jd_up_s 16 rfl rfl) (ci := 16) rfl (List.mem_of_getElem? (i := 5) rfl) rfl q1838 q1842 q1844 q122 q1846 q1840 q1845 q1843 q1841 ⟨by decide, by decide, by decide +kernel⟩ dX4_nightNow_173 rfl rfl (Nat.le_of_ble_eq_true rfl) ⟨(Nat.le_of_ble_eq_true rfl), (Nat.le_of_ble_eq_true rfl)⟩ ?_
        refine jd_bif_eq (tgt := 214) dX4_nightNow_178 (by decide) (fun z26 => ?_) (fun z27 => ?_)
        · omega
        · refine jd_aload_n dX4_nightNow_181 rfl ?_
          refine jd_callF (n := 0) (As := []) (rest := []) (ct_J24_next (jd_tmp hlP) (show nP κ ≤ 900 by omega) (c := k) jd_up_s (show k < nP κ by omega)) (jd_rv jd_up_s 16 rfl rfl) (ci := 16) rfl (List.mem_of_getElem? (i := 6) rfl) rfl q1848 q1851 q1853 q122 q1855 q1850 q1854 q1852 q1841 ⟨by decide, by decide, by decide +kernel⟩ dX4_nightNow_182 rfl rfl (Nat.le_of_ble_eq_true rfl) ⟨(Nat.le_of_ble_eq_true rfl), (Nat.le_of_ble_eq_true rfl), by omega, by omega⟩ (fun rv27 hn27 hq27 => ?_) jd_nox
          obtain ⟨rfl, he27⟩ := hq27
          rw [he27, jd_up_up]
          refine jd_castS (jd_rv (jd_tmp ((w_mpart hw) k (show k < nP κ by omega))) 13 rfl rfl) (ci := 13) rfl q1638 dX4_nightNow_187 ?_
          refine jd_astore (ls' := [_, _, _, _, _, _, _]) dX4_nightNow_190 (Nat.le_of_ble_eq_true rfl) rfl rfl ?_
          refine jd_iload_n dX4_nightNow_192 rfl ?_
          refine jd_aload dX4_nightNow_193 rfl ?_
          refine jd_getN in_X12 (jd_tmp ((w_mpart hw) k (show k < nP κ by omega))) 3 q1648 dX4_nightNow_195 rfl (Nat.le_of_ble_eq_true rfl) rfl ?_
          refine jd_iload_n dX4_nightNow_198 rfl ?_
          refine jd_iconst (v := 5) dX4_nightNow_199 (by decide) ?_
          refine jd_isubN (a := w) (b := 5) dX4_nightNow_200 (by omega) ?_
          refine jd_mg2 209 (.int (jd_b (((pFate κ k) = (w - 5))))) (fun hj29 => ?_) ?_
          · refine jd_ncmp_ne (a := (pFate κ k)) (b := (w - 5)) (tgt := 208) dX4_nightNow_201 (by decide) (by omega) (by omega) (fun z30 => ?_) (fun z31 => ?_)
            · refine jd_iconst (v := 0) dX4_nightNow_208 (by decide) ?_
              exact jd_top (congrArg Value.int (jd_b0 z30).symm) hj29
            · refine jd_iconst (v := 1) dX4_nightNow_204 (by decide) ?_
              refine jd_goto (tgt := 209) dX4_nightNow_205 (by decide) ?_
              exact jd_top (congrArg Value.int (jd_b1 z31).symm) hj29
          · refine jd_iadd dX4_nightNow_209 ?_
            refine jd_istore_n (ls' := [_, _, _, _, _, _, _]) dX4_nightNow_210 (Nat.le_of_ble_eq_true rfl) rfl rfl ?_
            refine jd_goto (tgt := 172) dX4_nightNow_211 (by decide) ?_
            refine jd_heq (h' := (jd_up h (0, q) (q, .inl (.inr (16, [.int (nI (k + 1)), .int (itL (k + 1)), .int (mcP), .ref (γ 0 4)]))))) rfl ?_
            refine jd_lsub [some (.ref (γ 0 0)), some (.int (nI w)), some (.int ((ll_cnt (fun p => pFate κ p = (w - 5)) (k + 1)))), some (.ref (q)), none, none, none] ⟨rfl, rfl, rfl, rfl, trivial⟩ ?_
            exact ih172 (k + 1) (by omega)
    refine jd_lsub [some (.ref (γ 0 0)), some (.int (nI w)), some (.int ((ll_cnt (fun p => pFate κ p = (w - 5)) 0))), some (.ref (q)), none, none, none] ⟨rfl, rfl, rfl, rfl, trivial⟩ ?_
    exact lp172_23 (nP κ) 0 (by omega)
  · refine jd_tabN (w := w) (j := 8) (off := 161) (tgt := 164) dX4_nightNow_3 e1 (by decide) (by decide) (by decide) rfl (by decide) ?_
    refine jd_aload_n dX4_nightNow_164 rfl ?_
    refine jd_get in_X4 (w_mthis hw) 9 q1475 dX4_nightNow_165 rfl (Nat.le_of_ble_eq_true rfl) rfl ?_
    refine jd_callV (As := []) (rest := []) (ct_J2_iterator hlP (show nP κ ≤ 900 by omega)) (jd_rv hlP 15 rfl rfl) rfl q1814 q1815 q1816 q83 q1817 nJ2_iterator dX4_nightNow_168 rfl rfl rfl (Nat.le_of_ble_eq_true rfl) ⟨(Nat.le_of_ble_eq_true rfl), (Nat.le_of_ble_eq_true rfl), by omega, by omega⟩ (fun rv31 hn31 hq31 => ?_) jd_nox
    obtain ⟨q, hq, rfl, he31⟩ := hq31
    rw [he31]
    refine jd_heq (h' := (jd_up h (0, q) (q, .inl (.inr (16, [.int (nI 0), .int (itL 0), .int (mcP), .ref (γ 0 4)]))))) rfl ?_
    refine jd_astore_n (ls' := [_, _, _, _, _, _, _]) dX4_nightNow_171 (Nat.le_of_ble_eq_true rfl) rfl rfl ?_
    have lp172_33 : ∀ (j : Nat) (k : Nat) (hk0 : k + j = nP κ), jd_W G mX4_nightNow 3 (1 - 1) (4 - 4) 172 [some (.ref (γ 0 0)), some (.int (nI w)), some (.int ((ll_cnt (fun p => pFate κ p = (w - 5)) k))), some (.ref (q)), none, none, none] [] (jd_up h (0, q) (q, .inl (.inr (16, [.int (nI k), .int (itL k), .int (mcP), .ref (γ 0 4)])))) (jd_pu h (.int (nightVal κ w))) jd_no := by
      intro j
      induction j with
      | zero =>
        intro k hk0
        obtain rfl : k = nP κ := by omega
        refine jd_aload_n dX4_nightNow_172 rfl ?_
        refine jd_pF (n := 0) (As := []) (rest := []) (ct_J24_hasNext (jd_tmp hlP) (show nP κ ≤ 900 by omega) (c := nP κ) jd_up_s (show nP κ ≤ nP κ by omega)) (jd_rv jd_up_s 16 rfl rfl) (ci := 16) rfl (List.mem_of_getElem? (i := 5) rfl) rfl q1838 q1842 q1844 q122 q1846 q1840 q1845 q1843 q1841 ⟨by decide, by decide, by decide +kernel⟩ dX4_nightNow_173 rfl rfl (Nat.le_of_ble_eq_true rfl) ⟨(Nat.le_of_ble_eq_true rfl), (Nat.le_of_ble_eq_true rfl)⟩ ?_
        refine jd_bif_eq (tgt := 214) dX4_nightNow_178 (by decide) (fun z34 => ?_) (fun z35 => ?_)
        · refine jd_drop (jd_tmp_keep hq) ?_
          refine jd_iload_n dX4_nightNow_214 rfl ?_
          exact jd_iret dX4_nightNow_215 rfl ⟨by subst e1; rfl, rfl⟩
        · omega
      | succ j ih172 =>
        intro k hk0
        have hp1 := hIp k (by omega)
        have hp2 := hp1.2.2.2.1
        refine jd_aload_n dX4_nightNow_172 rfl ?_
        refine jd_pF (n := 0) (As := []) (rest := []) (ct_J24_hasNext (jd_tmp hlP) (show nP κ ≤ 900 by omega) (c := k) jd_up_s (show k ≤ nP κ by omega)) (jd_rv jd_up_s 16 rfl rfl) (ci := 16) rfl (List.mem_of_getElem? (i := 5) rfl) rfl q1838 q1842 q1844 q122 q1846 q1840 q1845 q1843 q1841 ⟨by decide, by decide, by decide +kernel⟩ dX4_nightNow_173 rfl rfl (Nat.le_of_ble_eq_true rfl) ⟨(Nat.le_of_ble_eq_true rfl), (Nat.le_of_ble_eq_true rfl)⟩ ?_
        refine jd_bif_eq (tgt := 214) dX4_nightNow_178 (by decide) (fun z36 => ?_) (fun z37 => ?_)
        · omega
        · refine jd_aload_n dX4_nightNow_181 rfl ?_
          refine jd_callF (n := 0) (As := []) (rest := []) (ct_J24_next (jd_tmp hlP) (show nP κ ≤ 900 by omega) (c := k) jd_up_s (show k < nP κ by omega)) (jd_rv jd_up_s 16 rfl rfl) (ci := 16) rfl (List.mem_of_getElem? (i := 6) rfl) rfl q1848 q1851 q1853 q122 q1855 q1850 q1854 q1852 q1841 ⟨by decide, by decide, by decide +kernel⟩ dX4_nightNow_182 rfl rfl (Nat.le_of_ble_eq_true rfl) ⟨(Nat.le_of_ble_eq_true rfl), (Nat.le_of_ble_eq_true rfl), by omega, by omega⟩ (fun rv37 hn37 hq37 => ?_) jd_nox
          obtain ⟨rfl, he37⟩ := hq37
          rw [he37, jd_up_up]
          refine jd_castS (jd_rv (jd_tmp ((w_mpart hw) k (show k < nP κ by omega))) 13 rfl rfl) (ci := 13) rfl q1638 dX4_nightNow_187 ?_
          refine jd_astore (ls' := [_, _, _, _, _, _, _]) dX4_nightNow_190 (Nat.le_of_ble_eq_true rfl) rfl rfl ?_
          refine jd_iload_n dX4_nightNow_192 rfl ?_
          refine jd_aload dX4_nightNow_193 rfl ?_
          refine jd_getN in_X12 (jd_tmp ((w_mpart hw) k (show k < nP κ by omega))) 3 q1648 dX4_nightNow_195 rfl (Nat.le_of_ble_eq_true rfl) rfl ?_
          refine jd_iload_n dX4_nightNow_198 rfl ?_
          refine jd_iconst (v := 5) dX4_nightNow_199 (by decide) ?_
          refine jd_isubN (a := w) (b := 5) dX4_nightNow_200 (by omega) ?_
          refine jd_mg2 209 (.int (jd_b (((pFate κ k) = (w - 5))))) (fun hj39 => ?_) ?_
          · refine jd_ncmp_ne (a := (pFate κ k)) (b := (w - 5)) (tgt := 208) dX4_nightNow_201 (by decide) (by omega) (by omega) (fun z40 => ?_) (fun z41 => ?_)
            · refine jd_iconst (v := 0) dX4_nightNow_208 (by decide) ?_
              exact jd_top (congrArg Value.int (jd_b0 z40).symm) hj39
            · refine jd_iconst (v := 1) dX4_nightNow_204 (by decide) ?_
              refine jd_goto (tgt := 209) dX4_nightNow_205 (by decide) ?_
              exact jd_top (congrArg Value.int (jd_b1 z41).symm) hj39
          · refine jd_iadd dX4_nightNow_209 ?_
            refine jd_istore_n (ls' := [_, _, _, _, _, _, _]) dX4_nightNow_210 (Nat.le_of_ble_eq_true rfl) rfl rfl ?_
            refine jd_goto (tgt := 172) dX4_nightNow_211 (by decide) ?_
            refine jd_heq (h' := (jd_up h (0, q) (q, .inl (.inr (16, [.int (nI (k + 1)), .int (itL (k + 1)), .int (mcP), .ref (γ 0 4)]))))) rfl ?_
            refine jd_lsub [some (.ref (γ 0 0)), some (.int (nI w)), some (.int ((ll_cnt (fun p => pFate κ p = (w - 5)) (k + 1)))), some (.ref (q)), none, none, none] ⟨rfl, rfl, rfl, rfl, trivial⟩ ?_
            exact ih172 (k + 1) (by omega)
    refine jd_lsub [some (.ref (γ 0 0)), some (.int (nI w)), some (.int ((ll_cnt (fun p => pFate κ p = (w - 5)) 0))), some (.ref (q)), none, none, none] ⟨rfl, rfl, rfl, rfl, trivial⟩ ?_
    exact lp172_33 (nP κ) 0 (by omega)
  · refine jd_tabN (w := w) (j := 9) (off := 161) (tgt := 164) dX4_nightNow_3 e1 (by decide) (by decide) (by decide) rfl (by decide) ?_
    refine jd_aload_n dX4_nightNow_164 rfl ?_
    refine jd_get in_X4 (w_mthis hw) 9 q1475 dX4_nightNow_165 rfl (Nat.le_of_ble_eq_true rfl) rfl ?_
    refine jd_callV (As := []) (rest := []) (ct_J2_iterator hlP (show nP κ ≤ 900 by omega)) (jd_rv hlP 15 rfl rfl) rfl q1814 q1815 q1816 q83 q1817 nJ2_iterator dX4_nightNow_168 rfl rfl rfl (Nat.le_of_ble_eq_true rfl) ⟨(Nat.le_of_ble_eq_true rfl), (Nat.le_of_ble_eq_true rfl), by omega, by omega⟩ (fun rv41 hn41 hq41 => ?_) jd_nox
    obtain ⟨q, hq, rfl, he41⟩ := hq41
    rw [he41]
    refine jd_heq (h' := (jd_up h (0, q) (q, .inl (.inr (16, [.int (nI 0), .int (itL 0), .int (mcP), .ref (γ 0 4)]))))) rfl ?_
    refine jd_astore_n (ls' := [_, _, _, _, _, _, _]) dX4_nightNow_171 (Nat.le_of_ble_eq_true rfl) rfl rfl ?_
    have lp172_43 : ∀ (j : Nat) (k : Nat) (hk0 : k + j = nP κ), jd_W G mX4_nightNow 3 (1 - 1) (4 - 4) 172 [some (.ref (γ 0 0)), some (.int (nI w)), some (.int ((ll_cnt (fun p => pFate κ p = (w - 5)) k))), some (.ref (q)), none, none, none] [] (jd_up h (0, q) (q, .inl (.inr (16, [.int (nI k), .int (itL k), .int (mcP), .ref (γ 0 4)])))) (jd_pu h (.int (nightVal κ w))) jd_no := by
      intro j
      induction j with
      | zero =>
        intro k hk0
        obtain rfl : k = nP κ := by omega
        refine jd_aload_n dX4_nightNow_172 rfl ?_
        refine jd_pF (n := 0) (As := []) (rest := []) (ct_J24_hasNext (jd_tmp hlP) (show nP κ ≤ 900 by omega) (c := nP κ) jd_up_s (show nP κ ≤ nP κ by omega)) (jd_rv jd_up_s 16 rfl rfl) (ci := 16) rfl (List.mem_of_getElem? (i := 5) rfl) rfl q1838 q1842 q1844 q122 q1846 q1840 q1845 q1843 q1841 ⟨by decide, by decide, by decide +kernel⟩ dX4_nightNow_173 rfl rfl (Nat.le_of_ble_eq_true rfl) ⟨(Nat.le_of_ble_eq_true rfl), (Nat.le_of_ble_eq_true rfl)⟩ ?_
        refine jd_bif_eq (tgt := 214) dX4_nightNow_178 (by decide) (fun z44 => ?_) (fun z45 => ?_)
        · refine jd_drop (jd_tmp_keep hq) ?_
          refine jd_iload_n dX4_nightNow_214 rfl ?_
          exact jd_iret dX4_nightNow_215 rfl ⟨by subst e1; rfl, rfl⟩
        · omega
      | succ j ih172 =>
        intro k hk0
        have hp1 := hIp k (by omega)
        have hp2 := hp1.2.2.2.1
        refine jd_aload_n dX4_nightNow_172 rfl ?_
        refine jd_pF (n := 0) (As := []) (rest := []) (ct_J24_hasNext (jd_tmp hlP) (show nP κ ≤ 900 by omega) (c := k) jd_up_s (show k ≤ nP κ by omega)) (jd_rv jd_up_s 16 rfl rfl) (ci := 16) rfl (List.mem_of_getElem? (i := 5) rfl) rfl q1838 q1842 q1844 q122 q1846 q1840 q1845 q1843 q1841 ⟨by decide, by decide, by decide +kernel⟩ dX4_nightNow_173 rfl rfl (Nat.le_of_ble_eq_true rfl) ⟨(Nat.le_of_ble_eq_true rfl), (Nat.le_of_ble_eq_true rfl)⟩ ?_
        refine jd_bif_eq (tgt := 214) dX4_nightNow_178 (by decide) (fun z46 => ?_) (fun z47 => ?_)
        · omega
        · refine jd_aload_n dX4_nightNow_181 rfl ?_
          refine jd_callF (n := 0) (As := []) (rest := []) (ct_J24_next (jd_tmp hlP) (show nP κ ≤ 900 by omega) (c := k) jd_up_s (show k < nP κ by omega)) (jd_rv jd_up_s 16 rfl rfl) (ci := 16) rfl (List.mem_of_getElem? (i := 6) rfl) rfl q1848 q1851 q1853 q122 q1855 q1850 q1854 q1852 q1841 ⟨by decide, by decide, by decide +kernel⟩ dX4_nightNow_182 rfl rfl (Nat.le_of_ble_eq_true rfl) ⟨(Nat.le_of_ble_eq_true rfl), (Nat.le_of_ble_eq_true rfl), by omega, by omega⟩ (fun rv47 hn47 hq47 => ?_) jd_nox
          obtain ⟨rfl, he47⟩ := hq47
          rw [he47, jd_up_up]
          refine jd_castS (jd_rv (jd_tmp ((w_mpart hw) k (show k < nP κ by omega))) 13 rfl rfl) (ci := 13) rfl q1638 dX4_nightNow_187 ?_
          refine jd_astore (ls' := [_, _, _, _, _, _, _]) dX4_nightNow_190 (Nat.le_of_ble_eq_true rfl) rfl rfl ?_
          refine jd_iload_n dX4_nightNow_192 rfl ?_
          refine jd_aload dX4_nightNow_193 rfl ?_
          refine jd_getN in_X12 (jd_tmp ((w_mpart hw) k (show k < nP κ by omega))) 3 q1648 dX4_nightNow_195 rfl (Nat.le_of_ble_eq_true rfl) rfl ?_
          refine jd_iload_n dX4_nightNow_198 rfl ?_
          refine jd_iconst (v := 5) dX4_nightNow_199 (by decide) ?_
          refine jd_isubN (a := w) (b := 5) dX4_nightNow_200 (by omega) ?_
          refine jd_mg2 209 (.int (jd_b (((pFate κ k) = (w - 5))))) (fun hj49 => ?_) ?_
          · refine jd_ncmp_ne (a := (pFate κ k)) (b := (w - 5)) (tgt := 208) dX4_nightNow_201 (by decide) (by omega) (by omega) (fun z50 => ?_) (fun z51 => ?_)
            · refine jd_iconst (v := 0) dX4_nightNow_208 (by decide) ?_
              exact jd_top (congrArg Value.int (jd_b0 z50).symm) hj49
            · refine jd_iconst (v := 1) dX4_nightNow_204 (by decide) ?_
              refine jd_goto (tgt := 209) dX4_nightNow_205 (by decide) ?_
              exact jd_top (congrArg Value.int (jd_b1 z51).symm) hj49
          · refine jd_iadd dX4_nightNow_209 ?_
            refine jd_istore_n (ls' := [_, _, _, _, _, _, _]) dX4_nightNow_210 (Nat.le_of_ble_eq_true rfl) rfl rfl ?_
            refine jd_goto (tgt := 172) dX4_nightNow_211 (by decide) ?_
            refine jd_heq (h' := (jd_up h (0, q) (q, .inl (.inr (16, [.int (nI (k + 1)), .int (itL (k + 1)), .int (mcP), .ref (γ 0 4)]))))) rfl ?_
            refine jd_lsub [some (.ref (γ 0 0)), some (.int (nI w)), some (.int ((ll_cnt (fun p => pFate κ p = (w - 5)) (k + 1)))), some (.ref (q)), none, none, none] ⟨rfl, rfl, rfl, rfl, trivial⟩ ?_
            exact ih172 (k + 1) (by omega)
    refine jd_lsub [some (.ref (γ 0 0)), some (.int (nI w)), some (.int ((ll_cnt (fun p => pFate κ p = (w - 5)) 0))), some (.ref (q)), none, none, none] ⟨rfl, rfl, rfl, rfl, trivial⟩ ?_
    exact lp172_43 (nP κ) 0 (by omega)
  · refine jd_tabN (w := w) (j := 10) (off := 161) (tgt := 164) dX4_nightNow_3 e1 (by decide) (by decide) (by decide) rfl (by decide) ?_
    refine jd_aload_n dX4_nightNow_164 rfl ?_
    refine jd_get in_X4 (w_mthis hw) 9 q1475 dX4_nightNow_165 rfl (Nat.le_of_ble_eq_true rfl) rfl ?_
    refine jd_callV (As := []) (rest := []) (ct_J2_iterator hlP (show nP κ ≤ 900 by omega)) (jd_rv hlP 15 rfl rfl) rfl q1814 q1815 q1816 q83 q1817 nJ2_iterator dX4_nightNow_168 rfl rfl rfl (Nat.le_of_ble_eq_true rfl) ⟨(Nat.le_of_ble_eq_true rfl), (Nat.le_of_ble_eq_true rfl), by omega, by omega⟩ (fun rv51 hn51 hq51 => ?_) jd_nox
    obtain ⟨q, hq, rfl, he51⟩ := hq51
    rw [he51]
    refine jd_heq (h' := (jd_up h (0, q) (q, .inl (.inr (16, [.int (nI 0), .int (itL 0), .int (mcP), .ref (γ 0 4)]))))) rfl ?_
    refine jd_astore_n (ls' := [_, _, _, _, _, _, _]) dX4_nightNow_171 (Nat.le_of_ble_eq_true rfl) rfl rfl ?_
    have lp172_53 : ∀ (j : Nat) (k : Nat) (hk0 : k + j = nP κ), jd_W G mX4_nightNow 3 (1 - 1) (4 - 4) 172 [some (.ref (γ 0 0)), some (.int (nI w)), some (.int ((ll_cnt (fun p => pFate κ p = (w - 5)) k))), some (.ref (q)), none, none, none] [] (jd_up h (0, q) (q, .inl (.inr (16, [.int (nI k), .int (itL k), .int (mcP), .ref (γ 0 4)])))) (jd_pu h (.int (nightVal κ w))) jd_no := by
      intro j
      induction j with
      | zero =>
        intro k hk0
        obtain rfl : k = nP κ := by omega
        refine jd_aload_n dX4_nightNow_172 rfl ?_
        refine jd_pF (n := 0) (As := []) (rest := []) (ct_J24_hasNext (jd_tmp hlP) (show nP κ ≤ 900 by omega) (c := nP κ) jd_up_s (show nP κ ≤ nP κ by omega)) (jd_rv jd_up_s 16 rfl rfl) (ci := 16) rfl (List.mem_of_getElem? (i := 5) rfl) rfl q1838 q1842 q1844 q122 q1846 q1840 q1845 q1843 q1841 ⟨by decide, by decide, by decide +kernel⟩ dX4_nightNow_173 rfl rfl (Nat.le_of_ble_eq_true rfl) ⟨(Nat.le_of_ble_eq_true rfl), (Nat.le_of_ble_eq_true rfl)⟩ ?_
        refine jd_bif_eq (tgt := 214) dX4_nightNow_178 (by decide) (fun z54 => ?_) (fun z55 => ?_)
        · refine jd_drop (jd_tmp_keep hq) ?_
          refine jd_iload_n dX4_nightNow_214 rfl ?_
          exact jd_iret dX4_nightNow_215 rfl ⟨by subst e1; rfl, rfl⟩
        · omega
      | succ j ih172 =>
        intro k hk0
        have hp1 := hIp k (by omega)
        have hp2 := hp1.2.2.2.1
        refine jd_aload_n dX4_nightNow_172 rfl ?_
        refine jd_pF (n := 0) (As := []) (rest := []) (ct_J24_hasNext (jd_tmp hlP) (show nP κ ≤ 900 by omega) (c := k) jd_up_s (show k ≤ nP κ by omega)) (jd_rv jd_up_s 16 rfl rfl) (ci := 16) rfl (List.mem_of_getElem? (i := 5) rfl) rfl q1838 q1842 q1844 q122 q1846 q1840 q1845 q1843 q1841 ⟨by decide, by decide, by decide +kernel⟩ dX4_nightNow_173 rfl rfl (Nat.le_of_ble_eq_true rfl) ⟨(Nat.le_of_ble_eq_true rfl), (Nat.le_of_ble_eq_true rfl)⟩ ?_
        refine jd_bif_eq (tgt := 214) dX4_nightNow_178 (by decide) (fun z56 => ?_) (fun z57 => ?_)
        · omega
        · refine jd_aload_n dX4_nightNow_181 rfl ?_
          refine jd_callF (n := 0) (As := []) (rest := []) (ct_J24_next (jd_tmp hlP) (show nP κ ≤ 900 by omega) (c := k) jd_up_s (show k < nP κ by omega)) (jd_rv jd_up_s 16 rfl rfl) (ci := 16) rfl (List.mem_of_getElem? (i := 6) rfl) rfl q1848 q1851 q1853 q122 q1855 q1850 q1854 q1852 q1841 ⟨by decide, by decide, by decide +kernel⟩ dX4_nightNow_182 rfl rfl (Nat.le_of_ble_eq_true rfl) ⟨(Nat.le_of_ble_eq_true rfl), (Nat.le_of_ble_eq_true rfl), by omega, by omega⟩ (fun rv57 hn57 hq57 => ?_) jd_nox
          obtain ⟨rfl, he57⟩ := hq57
          rw [he57, jd_up_up]
          refine jd_castS (jd_rv (jd_tmp ((w_mpart hw) k (show k < nP κ by omega))) 13 rfl rfl) (ci := 13) rfl q1638 dX4_nightNow_187 ?_
          refine jd_astore (ls' := [_, _, _, _, _, _, _]) dX4_nightNow_190 (Nat.le_of_ble_eq_true rfl) rfl rfl ?_
          refine jd_iload_n dX4_nightNow_192 rfl ?_
          refine jd_aload dX4_nightNow_193 rfl ?_
          refine jd_getN in_X12 (jd_tmp ((w_mpart hw) k (show k < nP κ by omega))) 3 q1648 dX4_nightNow_195 rfl (Nat.le_of_ble_eq_true rfl) rfl ?_
          refine jd_iload_n dX4_nightNow_198 rfl ?_
          refine jd_iconst (v := 5) dX4_nightNow_199 (by decide) ?_
          refine jd_isubN (a := w) (b := 5) dX4_nightNow_200 (by omega) ?_
          refine jd_mg2 209 (.int (jd_b (((pFate κ k) = (w - 5))))) (fun hj59 => ?_) ?_
          · refine jd_ncmp_ne (a := (pFate κ k)) (b := (w - 5)) (tgt := 208) dX4_nightNow_201 (by decide) (by omega) (by omega) (fun z60 => ?_) (fun z61 => ?_)
            · refine jd_iconst (v := 0) dX4_nightNow_208 (by decide) ?_
              exact jd_top (congrArg Value.int (jd_b0 z60).symm) hj59
            · refine jd_iconst (v := 1) dX4_nightNow_204 (by decide) ?_
              refine jd_goto (tgt := 209) dX4_nightNow_205 (by decide) ?_
              exact jd_top (congrArg Value.int (jd_b1 z61).symm) hj59
          · refine jd_iadd dX4_nightNow_209 ?_
            refine jd_istore_n (ls' := [_, _, _, _, _, _, _]) dX4_nightNow_210 (Nat.le_of_ble_eq_true rfl) rfl rfl ?_
            refine jd_goto (tgt := 172) dX4_nightNow_211 (by decide) ?_
            refine jd_heq (h' := (jd_up h (0, q) (q, .inl (.inr (16, [.int (nI (k + 1)), .int (itL (k + 1)), .int (mcP), .ref (γ 0 4)]))))) rfl ?_
            refine jd_lsub [some (.ref (γ 0 0)), some (.int (nI w)), some (.int ((ll_cnt (fun p => pFate κ p = (w - 5)) (k + 1)))), some (.ref (q)), none, none, none] ⟨rfl, rfl, rfl, rfl, trivial⟩ ?_
            exact ih172 (k + 1) (by omega)
    refine jd_lsub [some (.ref (γ 0 0)), some (.int (nI w)), some (.int ((ll_cnt (fun p => pFate κ p = (w - 5)) 0))), some (.ref (q)), none, none, none] ⟨rfl, rfl, rfl, rfl, trivial⟩ ?_
    exact lp172_53 (nP κ) 0 (by omega)
  · refine jd_tabN (w := w) (j := 11) (off := 213) (tgt := 216) dX4_nightNow_3 e1 (by decide) (by decide) (by decide) rfl (by decide) ?_
    refine jd_aload_n dX4_nightNow_216 rfl ?_
    refine jd_get in_X4 (w_mthis hw) 9 q1475 dX4_nightNow_217 rfl (Nat.le_of_ble_eq_true rfl) rfl ?_
    refine jd_callV (As := []) (rest := []) (ct_J2_iterator hlP (show nP κ ≤ 900 by omega)) (jd_rv hlP 15 rfl rfl) rfl q1814 q1815 q1816 q83 q1817 nJ2_iterator dX4_nightNow_220 rfl rfl rfl (Nat.le_of_ble_eq_true rfl) ⟨(Nat.le_of_ble_eq_true rfl), (Nat.le_of_ble_eq_true rfl), by omega, by omega⟩ (fun rv61 hn61 hq61 => ?_) jd_nox
    obtain ⟨q, hq, rfl, he61⟩ := hq61
    rw [he61]
    refine jd_heq (h' := (jd_up h (0, q) (q, .inl (.inr (16, [.int (nI 0), .int (itL 0), .int (mcP), .ref (γ 0 4)]))))) rfl ?_
    refine jd_astore_n (ls' := [_, _, _, _, _, _, _]) dX4_nightNow_223 (Nat.le_of_ble_eq_true rfl) rfl rfl ?_
    have lp224_63 : ∀ (j : Nat) (k : Nat) (hk0 : k + j = nP κ), jd_W G mX4_nightNow 3 (1 - 1) (4 - 4) 224 [some (.ref (γ 0 0)), some (.int (nI w)), some (.int ((ll_cnt (fun p => pAt κ p = 999) k))), some (.ref (q)), none, none, none] [] (jd_up h (0, q) (q, .inl (.inr (16, [.int (nI k), .int (itL k), .int (mcP), .ref (γ 0 4)])))) (jd_pu h (.int (nightVal κ w))) jd_no := by
      intro j
      induction j with
      | zero =>
        intro k hk0
        obtain rfl : k = nP κ := by omega
        refine jd_aload_n dX4_nightNow_224 rfl ?_
        refine jd_pF (n := 0) (As := []) (rest := []) (ct_J24_hasNext (jd_tmp hlP) (show nP κ ≤ 900 by omega) (c := nP κ) jd_up_s (show nP κ ≤ nP κ by omega)) (jd_rv jd_up_s 16 rfl rfl) (ci := 16) rfl (List.mem_of_getElem? (i := 5) rfl) rfl q1838 q1842 q1844 q122 q1846 q1840 q1845 q1843 q1841 ⟨by decide, by decide, by decide +kernel⟩ dX4_nightNow_225 rfl rfl (Nat.le_of_ble_eq_true rfl) ⟨(Nat.le_of_ble_eq_true rfl), (Nat.le_of_ble_eq_true rfl)⟩ ?_
        refine jd_bif_eq (tgt := 266) dX4_nightNow_230 (by decide) (fun z64 => ?_) (fun z65 => ?_)
        · refine jd_drop (jd_tmp_keep hq) ?_
          refine jd_iload_n dX4_nightNow_266 rfl ?_
          exact jd_iret dX4_nightNow_267 rfl ⟨by subst e1; exact congrArg (fun x => some (Value.int x)) (goneM hI), rfl⟩
        · omega
      | succ j ih224 =>
        intro k hk0
        have hat := at_bd hI (p := k) (by omega)
        refine jd_aload_n dX4_nightNow_224 rfl ?_
        refine jd_pF (n := 0) (As := []) (rest := []) (ct_J24_hasNext (jd_tmp hlP) (show nP κ ≤ 900 by omega) (c := k) jd_up_s (show k ≤ nP κ by omega)) (jd_rv jd_up_s 16 rfl rfl) (ci := 16) rfl (List.mem_of_getElem? (i := 5) rfl) rfl q1838 q1842 q1844 q122 q1846 q1840 q1845 q1843 q1841 ⟨by decide, by decide, by decide +kernel⟩ dX4_nightNow_225 rfl rfl (Nat.le_of_ble_eq_true rfl) ⟨(Nat.le_of_ble_eq_true rfl), (Nat.le_of_ble_eq_true rfl)⟩ ?_
        refine jd_bif_eq (tgt := 266) dX4_nightNow_230 (by decide) (fun z66 => ?_) (fun z67 => ?_)
        · omega
        · refine jd_aload_n dX4_nightNow_233 rfl ?_
          refine jd_callF (n := 0) (As := []) (rest := []) (ct_J24_next (jd_tmp hlP) (show nP κ ≤ 900 by omega) (c := k) jd_up_s (show k < nP κ by omega)) (jd_rv jd_up_s 16 rfl rfl) (ci := 16) rfl (List.mem_of_getElem? (i := 6) rfl) rfl q1848 q1851 q1853 q122 q1855 q1850 q1854 q1852 q1841 ⟨by decide, by decide, by decide +kernel⟩ dX4_nightNow_234 rfl rfl (Nat.le_of_ble_eq_true rfl) ⟨(Nat.le_of_ble_eq_true rfl), (Nat.le_of_ble_eq_true rfl), by omega, by omega⟩ (fun rv67 hn67 hq67 => ?_) jd_nox
          obtain ⟨rfl, he67⟩ := hq67
          rw [he67, jd_up_up]
          refine jd_castS (jd_rv (jd_tmp ((w_mpart hw) k (show k < nP κ by omega))) 13 rfl rfl) (ci := 13) rfl q1638 dX4_nightNow_239 ?_
          refine jd_astore (ls' := [_, _, _, _, _, _, _]) dX4_nightNow_242 (Nat.le_of_ble_eq_true rfl) rfl rfl ?_
          refine jd_iload_n dX4_nightNow_244 rfl ?_
          refine jd_aload dX4_nightNow_245 rfl ?_
          refine jd_getN in_X12 (jd_tmp ((w_mpart hw) k (show k < nP κ by omega))) 4 q1649 dX4_nightNow_247 rfl (Nat.le_of_ble_eq_true rfl) rfl ?_
          refine jd_sipush (v := 999) dX4_nightNow_250 (by decide) ?_
          refine jd_mg2 261 (.int (jd_b (((pAt κ k) = 999)))) (fun hj69 => ?_) ?_
          · refine jd_ncmp_ne (a := (pAt κ k)) (b := 999) (tgt := 260) dX4_nightNow_253 (by decide) (by omega) (by omega) (fun z70 => ?_) (fun z71 => ?_)
            · refine jd_iconst (v := 0) dX4_nightNow_260 (by decide) ?_
              exact jd_top (congrArg Value.int (jd_b0 z70).symm) hj69
            · refine jd_iconst (v := 1) dX4_nightNow_256 (by decide) ?_
              refine jd_goto (tgt := 261) dX4_nightNow_257 (by decide) ?_
              exact jd_top (congrArg Value.int (jd_b1 z71).symm) hj69
          · refine jd_iadd dX4_nightNow_261 ?_
            refine jd_istore_n (ls' := [_, _, _, _, _, _, _]) dX4_nightNow_262 (Nat.le_of_ble_eq_true rfl) rfl rfl ?_
            refine jd_goto (tgt := 224) dX4_nightNow_263 (by decide) ?_
            refine jd_heq (h' := (jd_up h (0, q) (q, .inl (.inr (16, [.int (nI (k + 1)), .int (itL (k + 1)), .int (mcP), .ref (γ 0 4)]))))) rfl ?_
            refine jd_lsub [some (.ref (γ 0 0)), some (.int (nI w)), some (.int ((ll_cnt (fun p => pAt κ p = 999) (k + 1)))), some (.ref (q)), none, none, none] ⟨rfl, rfl, rfl, rfl, trivial⟩ ?_
            exact ih224 (k + 1) (by omega)
    refine jd_lsub [some (.ref (γ 0 0)), some (.int (nI w)), some (.int ((ll_cnt (fun p => pAt κ p = 999) 0))), some (.ref (q)), none, none, none] ⟨rfl, rfl, rfl, rfl, trivial⟩ ?_
    exact lp224_63 (nP κ) 0 (by omega)
  · refine jd_tabN (w := w) (j := 12) (off := 265) (tgt := 268) dX4_nightNow_3 e1 (by decide) (by decide) (by decide) rfl (by decide) ?_
    refine jd_aload_n dX4_nightNow_268 rfl ?_
    refine jd_get in_X4 (w_mthis hw) 10 q1476 dX4_nightNow_269 rfl (Nat.le_of_ble_eq_true rfl) rfl ?_
    refine jd_pV (As := []) (rest := []) (ct_J2_size hlH (show 3 * (hids κ).length ≤ 900 by omega)) (jd_rv hlH 15 rfl rfl) rfl q1533 q344 q1999 q83 q346 nJ2_size dX4_nightNow_272 rfl rfl rfl (Nat.le_of_ble_eq_true rfl) ⟨(Nat.le_of_ble_eq_true rfl), (Nat.le_of_ble_eq_true rfl)⟩ ?_
    refine jd_iconst (v := 3) dX4_nightNow_275 (by decide) ?_
    refine jd_idivN (a := 3 * (hids κ).length) (b := 3) dX4_nightNow_276 (by omega) (by omega) (by omega) ?_
    exact jd_iret dX4_nightNow_277 rfl ⟨by subst e1; exact congrArg (fun x => some (Value.int (nI x))) (by omega : 3 * (hids κ).length / 3 = (hids κ).length), rfl⟩
  · refine jd_tabN (w := w) (j := 13) (off := 275) (tgt := 278) dX4_nightNow_3 e1 (by decide) (by decide) (by decide) rfl (by decide) ?_
    refine jd_aload_n dX4_nightNow_278 rfl ?_
    refine jd_get in_X4 (w_mthis hw) 4 q1470 dX4_nightNow_279 rfl (Nat.le_of_ble_eq_true rfl) rfl ?_
    exact jd_iret dX4_nightNow_282 rfl ⟨by subst e1; rfl, rfl⟩
  · refine jd_tabN (w := w) (j := 14) (off := 280) (tgt := 283) dX4_nightNow_3 e1 (by decide) (by decide) (by decide) rfl (by decide) ?_
    refine jd_aload_n dX4_nightNow_283 rfl ?_
    refine jd_get in_X4 (w_mthis hw) 5 q1471 dX4_nightNow_284 rfl (Nat.le_of_ble_eq_true rfl) rfl ?_
    exact jd_iret dX4_nightNow_287 rfl ⟨by subst e1; rfl, rfl⟩
  · refine jd_tabN (w := w) (j := 15) (off := 285) (tgt := 288) dX4_nightNow_3 e1 (by decide) (by decide) (by decide) rfl (by decide) ?_
    refine jd_aload_n dX4_nightNow_288 rfl ?_
    refine jd_get in_X4 (w_mthis hw) 6 q1472 dX4_nightNow_289 rfl (Nat.le_of_ble_eq_true rfl) rfl ?_
    refine jd_astore_n (ls' := [_, _, _, _, _, _, _]) dX4_nightNow_292 (Nat.le_of_ble_eq_true rfl) rfl rfl ?_
    refine jd_aload_n dX4_nightNow_293 rfl ?_
    refine jd_alen (w_mlands hw) dX4_nightNow_294 5 rfl ?_
    refine jd_istore (ls' := [_, _, _, _, _, _, _]) dX4_nightNow_295 (Nat.le_of_ble_eq_true rfl) rfl rfl ?_
    refine jd_iconst (v := 0) dX4_nightNow_297 (by decide) ?_
    refine jd_istore (ls' := [_, _, _, _, _, _, _]) dX4_nightNow_298 (Nat.le_of_ble_eq_true rfl) rfl rfl ?_
    have lp300_72 : ∀ (j : Nat) (k : Nat) (hk0 : k + j = 6), jd_W G mX4_nightNow 3 (1) (4) 300 [some (.ref (γ 0 0)), some (.int (nI w)), some (.int ((ll_sum (fun p => lDut κ p) k))), some (.ref (γ 0 1)), some (.int (nI 6)), some (.int (nI k)), none] [] h (jd_pu h (.int (nightVal κ w))) jd_no := by
      intro j
      induction j with
      | zero =>
        intro k hk0
        obtain rfl : k = 6 := by omega
        refine jd_iload dX4_nightNow_300 rfl ?_
        refine jd_iload dX4_nightNow_302 rfl ?_
        refine jd_ncmp_ge (a := 6) (b := 6) (tgt := 327) dX4_nightNow_304 (by decide) (by omega) (by omega) (fun z73 => ?_) (fun z74 => ?_)
        · refine jd_iload_n dX4_nightNow_327 rfl ?_
          exact jd_iret dX4_nightNow_328 rfl ⟨by subst e1; rfl, rfl⟩
        · omega
      | succ j ih300 =>
        intro k hk0
        refine jd_iload dX4_nightNow_300 rfl ?_
        refine jd_iload dX4_nightNow_302 rfl ?_
        refine jd_ncmp_ge (a := k) (b := 6) (tgt := 327) dX4_nightNow_304 (by decide) (by omega) (by omega) (fun z75 => ?_) (fun z76 => ?_)
        · omega
        · refine jd_aload_n dX4_nightNow_307 rfl ?_
          refine jd_iload dX4_nightNow_308 rfl ?_
          refine jd_aald (y := γ 1 k) (w_mlands hw) dX4_nightNow_310 5 rfl (vp_in_nI (by omega) (by omega)) (by rw [nI_clamp (by omega)]) ?_
          refine jd_astore (ls' := [_, _, _, _, _, _, _]) dX4_nightNow_311 (Nat.le_of_ble_eq_true rfl) rfl rfl ?_
          refine jd_iload_n dX4_nightNow_313 rfl ?_
          refine jd_aload dX4_nightNow_314 rfl ?_
          refine jd_getN in_X5 ((w_mland hw) k (show k < 6 by omega)) 4 q1451 dX4_nightNow_316 rfl (Nat.le_of_ble_eq_true rfl) rfl ?_
          refine jd_iadd dX4_nightNow_319 ?_
          refine jd_istore_n (ls' := [_, _, _, _, _, _, _]) dX4_nightNow_320 (Nat.le_of_ble_eq_true rfl) rfl rfl ?_
          refine jd_iincN (n := 1) (ls' := [_, _, _, _, _, _, _]) dX4_nightNow_321 rfl (Nat.le_of_ble_eq_true rfl) rfl rfl ?_
          refine jd_goto (tgt := 300) dX4_nightNow_324 (by decide) ?_
          refine jd_lsub [some (.ref (γ 0 0)), some (.int (nI w)), some (.int ((ll_sum (fun p => lDut κ p) (k + 1)))), some (.ref (γ 0 1)), some (.int (nI 6)), some (.int (nI (k + 1))), none] ⟨rfl, rfl, rfl, rfl, rfl, rfl, trivial⟩ ?_
          exact ih300 (k + 1) (by omega)
    refine jd_lsub [some (.ref (γ 0 0)), some (.int (nI w)), some (.int ((ll_sum (fun p => lDut κ p) 0))), some (.ref (γ 0 1)), some (.int (nI 6)), some (.int (nI 0)), none] ⟨rfl, rfl, rfl, rfl, rfl, rfl, trivial⟩ ?_
    exact lp300_72 (6) 0 (by omega)
  · refine jd_tabD (w := w) (j := 16) (tgt := 329) dX4_nightNow_3 e1 (by decide) (by decide) (by decide) ?_
    refine jd_aload_n dX4_nightNow_329 rfl ?_
    refine jd_get in_X4 (w_mthis hw) 6 q1472 dX4_nightNow_330 rfl (Nat.le_of_ble_eq_true rfl) rfl ?_
    refine jd_astore_n (ls' := [_, _, _, _, _, _, _]) dX4_nightNow_333 (Nat.le_of_ble_eq_true rfl) rfl rfl ?_
    refine jd_aload_n dX4_nightNow_334 rfl ?_
    refine jd_alen (w_mlands hw) dX4_nightNow_335 5 rfl ?_
    refine jd_istore (ls' := [_, _, _, _, _, _, _]) dX4_nightNow_336 (Nat.le_of_ble_eq_true rfl) rfl rfl ?_
    refine jd_iconst (v := 0) dX4_nightNow_338 (by decide) ?_
    refine jd_istore (ls' := [_, _, _, _, _, _, _]) dX4_nightNow_339 (Nat.le_of_ble_eq_true rfl) rfl rfl ?_
    have lp341_77 : ∀ (j : Nat) (k : Nat) (hk0 : k + j = 6), jd_W G mX4_nightNow 3 (1) (4) 341 [some (.ref (γ 0 0)), some (.int (nI w)), some (.int ((ll_sum (fun p => lFin κ p) k))), some (.ref (γ 0 1)), some (.int (nI 6)), some (.int (nI k)), none] [] h (jd_pu h (.int (nightVal κ w))) jd_no := by
      intro j
      induction j with
      | zero =>
        intro k hk0
        obtain rfl : k = 6 := by omega
        refine jd_iload dX4_nightNow_341 rfl ?_
        refine jd_iload dX4_nightNow_343 rfl ?_
        refine jd_ncmp_ge (a := 6) (b := 6) (tgt := 368) dX4_nightNow_345 (by decide) (by omega) (by omega) (fun z78 => ?_) (fun z79 => ?_)
        · refine jd_iload_n dX4_nightNow_368 rfl ?_
          exact jd_iret dX4_nightNow_369 rfl ⟨by subst e1; rfl, rfl⟩
        · omega
      | succ j ih341 =>
        intro k hk0
        refine jd_iload dX4_nightNow_341 rfl ?_
        refine jd_iload dX4_nightNow_343 rfl ?_
        refine jd_ncmp_ge (a := k) (b := 6) (tgt := 368) dX4_nightNow_345 (by decide) (by omega) (by omega) (fun z80 => ?_) (fun z81 => ?_)
        · omega
        · refine jd_aload_n dX4_nightNow_348 rfl ?_
          refine jd_iload dX4_nightNow_349 rfl ?_
          refine jd_aald (y := γ 1 k) (w_mlands hw) dX4_nightNow_351 5 rfl (vp_in_nI (by omega) (by omega)) (by rw [nI_clamp (by omega)]) ?_
          refine jd_astore (ls' := [_, _, _, _, _, _, _]) dX4_nightNow_352 (Nat.le_of_ble_eq_true rfl) rfl rfl ?_
          refine jd_iload_n dX4_nightNow_354 rfl ?_
          refine jd_aload dX4_nightNow_355 rfl ?_
          refine jd_getN in_X5 ((w_mland hw) k (show k < 6 by omega)) 5 q1452 dX4_nightNow_357 rfl (Nat.le_of_ble_eq_true rfl) rfl ?_
          refine jd_iadd dX4_nightNow_360 ?_
          refine jd_istore_n (ls' := [_, _, _, _, _, _, _]) dX4_nightNow_361 (Nat.le_of_ble_eq_true rfl) rfl rfl ?_
          refine jd_iincN (n := 1) (ls' := [_, _, _, _, _, _, _]) dX4_nightNow_362 rfl (Nat.le_of_ble_eq_true rfl) rfl rfl ?_
          refine jd_goto (tgt := 341) dX4_nightNow_365 (by decide) ?_
          refine jd_lsub [some (.ref (γ 0 0)), some (.int (nI w)), some (.int ((ll_sum (fun p => lFin κ p) (k + 1)))), some (.ref (γ 0 1)), some (.int (nI 6)), some (.int (nI (k + 1))), none] ⟨rfl, rfl, rfl, rfl, rfl, rfl, trivial⟩ ?_
          exact ih341 (k + 1) (by omega)
    refine jd_lsub [some (.ref (γ 0 0)), some (.int (nI w)), some (.int ((ll_sum (fun p => lFin κ p) 0))), some (.ref (γ 0 1)), some (.int (nI 6)), some (.int (nI 0)), none] ⟨rfl, rfl, rfl, rfl, rfl, rfl, trivial⟩ ?_
    exact lp341_77 (6) 0 (by omega)
