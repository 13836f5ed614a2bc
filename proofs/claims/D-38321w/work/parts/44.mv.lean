/-! the model: ways, plans (printed by mk_c.py) -/
set_option maxRecDepth 20000 in
set_option maxHeartbeats 2000000 in
theorem ct_X4_wayNow {G : jd_G} {γ : ll_B} {κ : ll_K} {μ : ll_U} {h : jd_H} (hw : WM G γ κ μ h) (hI : ll_I κ) (f : Nat) (hf : f < 6) (d : Nat) (hd : d < 6) : jd_Ct G mX4_wayNow 3 (0) (0) [.ref (γ 0 0), .int (nI f), .int (nI d)] h (jd_pu h (.int (wayN κ f d))) jd_no := by
  obtain ⟨⟨hG8, hS12, hP24, hH40, hN99, hH24⟩, hIg, hIs, hIp, hIh, hIl, hIq⟩ := id hI
  obtain ⟨mcG, hlG⟩ := w_mgates hw
  obtain ⟨mcS, hlS⟩ := w_msleepers hw
  obtain ⟨mcP, hlP⟩ := w_mparts hw
  obtain ⟨mcH, hlH⟩ := w_mhidings hw
  refine jd_ct (ls := [some (.ref (γ 0 0)), some (.int (nI f)), some (.int (nI d)), none, none, none, none, none]) rfl rfl (by decide) (Nat.le_of_ble_eq_true rfl) rfl ?_
  refine jd_iconst (v := 1) dX4_wayNow_0 (by decide) ?_
  refine jd_iload_n dX4_wayNow_1 rfl ?_
  refine jd_ishl dX4_wayNow_2 ?_
  refine jd_istore_n (ls' := [_, _, _, _, _, _, _, _]) dX4_wayNow_3 (Nat.le_of_ble_eq_true rfl) rfl rfl ?_
  refine jd_iconst (v := 0) dX4_wayNow_4 (by decide) ?_
  refine jd_istore (ls' := [_, _, _, _, _, _, _, _]) dX4_wayNow_5 (Nat.le_of_ble_eq_true rfl) rfl rfl ?_
  have lp7_1 : ∀ (j : Nat) (t : Nat) (ht0 : t + j = 73) (hno : ∀ u, u < t → wayW κ f u d = none), jd_W G mX4_wayNow 3 (0) (0) 7 [some (.ref (γ 0 0)), some (.int (nI f)), some (.int (nI d)), some (.int ((ll_sB (wS κ f t)))), some (.int (nI t)), none, none, none] [] h (jd_pu h (.int (wayN κ f d))) jd_no := by
    intro j
    induction j with
    | zero =>
      intro t ht0 hno
      obtain rfl : t = 73 := by omega
      refine jd_iload dX4_wayNow_7 rfl ?_
      refine jd_bipush (v := 72) dX4_wayNow_9 (by decide) ?_
      refine jd_ncmp_gt (a := 73) (b := 72) (tgt := 144) dX4_wayNow_11 (by decide) (by omega) (by omega) (fun z2 => ?_) (fun z3 => ?_)
      · refine jd_iconst (v := (-1)) dX4_wayNow_144 (by decide) ?_
        exact jd_iret dX4_wayNow_145 rfl ⟨by rw [show wayN κ f d = oI (wayW κ f 72 d) from rfl, hno 72 (by omega)]; rfl, rfl⟩
      · omega
    | succ j ih7 =>
      intro t ht0 hno
      refine jd_iload dX4_wayNow_7 rfl ?_
      refine jd_bipush (v := 72) dX4_wayNow_9 (by decide) ?_
      refine jd_ncmp_gt (a := t) (b := 72) (tgt := 144) dX4_wayNow_11 (by decide) (by omega) (by omega) (fun z4 => ?_) (fun z5 => ?_)
      · omega
      · refine jd_iload_n dX4_wayNow_14 rfl ?_
        refine jd_iload_n dX4_wayNow_15 rfl ?_
        refine jd_ishr dX4_wayNow_16 ?_
        refine jd_iconst (v := 1) dX4_wayNow_17 (by decide) ?_
        refine jd_iand dX4_wayNow_18 ?_
        refine jd_iconst (v := 1) dX4_wayNow_19 (by decide) ?_
        refine jd_icmp_ne (tgt := 26) dX4_wayNow_20 (by decide) (fun z6 => ?_) (fun z7 => ?_)
        · have hno2 : ∀ u, u < t + 1 → wayW κ f u d = none := fun u hu => by rcases Nat.lt_succ_iff_lt_or_eq.mp hu with w | w; exact hno u w; subst w; exact Option.not_isSome_iff_eq_none.mp (fun z => z6 ((ll_sB_has (by omega)).mpr z))
          refine jd_iload_n dX4_wayNow_26 rfl ?_
          refine jd_istore (ls' := [_, _, _, _, _, _, _, _]) dX4_wayNow_27 (Nat.le_of_ble_eq_true rfl) rfl rfl ?_
          refine jd_iconst (v := 0) dX4_wayNow_29 (by decide) ?_
          refine jd_istore (ls' := [_, _, _, _, _, _, _, _]) dX4_wayNow_30 (Nat.le_of_ble_eq_true rfl) rfl rfl ?_
          have lp32_8 : ∀ (j : Nat) (k : Nat) (hk0 : k + j = nG κ), jd_W G mX4_wayNow 3 (0) (0) 32 [some (.ref (γ 0 0)), some (.int (nI f)), some (.int (nI d)), some (.int ((ll_sB (wS κ f t)))), some (.int (nI t)), some (.int ((ll_sB (gS κ f t k)))), some (.int (nI k)), none] [] h (jd_pu h (.int (wayN κ f d))) jd_no := by
            intro j
            induction j with
            | zero =>
              intro k hk0
              obtain rfl : k = nG κ := by omega
              refine jd_iload dX4_wayNow_32 rfl ?_
              refine jd_aload_n dX4_wayNow_34 rfl ?_
              refine jd_get in_X4 (w_mthis hw) 7 q1473 dX4_wayNow_35 rfl (Nat.le_of_ble_eq_true rfl) rfl ?_
              refine jd_pV (As := []) (rest := [.int (nI (nG κ))]) (ct_J2_size hlG (show nG κ ≤ 900 by omega)) (jd_rv hlG 15 rfl rfl) rfl q1533 q344 q1999 q83 q346 nJ2_size dX4_wayNow_38 rfl rfl rfl (Nat.le_of_ble_eq_true rfl) ⟨(Nat.le_of_ble_eq_true rfl), (Nat.le_of_ble_eq_true rfl)⟩ ?_
              refine jd_ncmp_ge (a := nG κ) (b := nG κ) (tgt := 135) dX4_wayNow_41 (by decide) (by omega) (by omega) (fun z9 => ?_) (fun z10 => ?_)
              · refine jd_iload dX4_wayNow_135 rfl ?_
                refine jd_istore_n (ls' := [_, _, _, _, _, _, _, _]) dX4_wayNow_137 (Nat.le_of_ble_eq_true rfl) rfl rfl ?_
                refine jd_iincN (n := 1) (ls' := [_, _, _, _, _, _, _, _]) dX4_wayNow_138 rfl (Nat.le_of_ble_eq_true rfl) rfl rfl ?_
                refine jd_goto (tgt := 7) dX4_wayNow_141 (by decide) ?_
                refine jd_lsub [some (.ref (γ 0 0)), some (.int (nI f)), some (.int (nI d)), some (.int ((ll_sB (wS κ f (t + 1))))), some (.int (nI (t + 1))), none, none, none] ⟨rfl, rfl, rfl, rfl, rfl, trivial⟩ ?_
                exact ih7 (t + 1) (by omega) hno2
              · omega
            | succ j ih32 =>
              intro k hk0
              have hg1 := hIg k (by omega)
              have hg2 := hg1.1
              have hg3 := hg1.2.1
              refine jd_iload dX4_wayNow_32 rfl ?_
              refine jd_aload_n dX4_wayNow_34 rfl ?_
              refine jd_get in_X4 (w_mthis hw) 7 q1473 dX4_wayNow_35 rfl (Nat.le_of_ble_eq_true rfl) rfl ?_
              refine jd_pV (As := []) (rest := [.int (nI k)]) (ct_J2_size hlG (show nG κ ≤ 900 by omega)) (jd_rv hlG 15 rfl rfl) rfl q1533 q344 q1999 q83 q346 nJ2_size dX4_wayNow_38 rfl rfl rfl (Nat.le_of_ble_eq_true rfl) ⟨(Nat.le_of_ble_eq_true rfl), (Nat.le_of_ble_eq_true rfl)⟩ ?_
              refine jd_ncmp_ge (a := k) (b := nG κ) (tgt := 135) dX4_wayNow_41 (by decide) (by omega) (by omega) (fun z11 => ?_) (fun z12 => ?_)
              · omega
              · refine jd_aload_n dX4_wayNow_44 rfl ?_
                refine jd_get in_X4 (w_mthis hw) 7 q1473 dX4_wayNow_45 rfl (Nat.le_of_ble_eq_true rfl) rfl ?_
                refine jd_iload dX4_wayNow_48 rfl ?_
                refine jd_pV (As := [.int (nI k)]) (rest := []) (ct_J2_get hlG (show nG κ ≤ 900 by omega) (k := k) (show k < nG κ by omega)) (jd_rv hlG 15 rfl rfl) rfl q1584 q325 q2001 q83 q327 nJ2_get dX4_wayNow_50 rfl rfl rfl (Nat.le_of_ble_eq_true rfl) ⟨(Nat.le_of_ble_eq_true rfl), (Nat.le_of_ble_eq_true rfl)⟩ ?_
                refine jd_castS (jd_rv ((w_mgate hw) k (show k < nG κ by omega)) 11 rfl rfl) (ci := 11) rfl q1534 dX4_wayNow_53 ?_
                refine jd_astore (ls' := [_, _, _, _, _, _, _, _]) dX4_wayNow_56 (Nat.le_of_ble_eq_true rfl) rfl rfl ?_
                refine jd_aload dX4_wayNow_58 rfl ?_
                refine jd_aload_n dX4_wayNow_60 rfl ?_
                refine jd_get in_X4 (w_mthis hw) 2 q1468 dX4_wayNow_61 rfl (Nat.le_of_ble_eq_true rfl) rfl ?_
                refine jd_iload dX4_wayNow_64 rfl ?_
                refine jd_iadd dX4_wayNow_66 ?_
                refine jd_bipush (v := 24) dX4_wayNow_67 (by decide) ?_
                refine jd_irem dX4_wayNow_69 (by decide) ?_
                refine jd_pV (As := [.int ((jd_rem ((nI ((nHour κ)) + nI t)) (24)))]) (rest := []) (ct_X8_isOpen ((w_mgate hw) k (show k < nG κ by omega)) ((jd_rem ((nI ((nHour κ)) + nI t)) (24)))) (jd_rv ((w_mgate hw) k (show k < nG κ by omega)) 11 rfl rfl) rfl q1763 q1764 q1765 q104 q1766 nX8_isOpen dX4_wayNow_70 rfl rfl rfl (Nat.le_of_ble_eq_true rfl) ⟨(Nat.le_of_ble_eq_true rfl), (Nat.le_of_ble_eq_true rfl)⟩ ?_
                refine jd_bif_ne (tgt := 79) dX4_wayNow_73 (by decide) (fun z13 => ?_) (fun z14 => ?_)
                · have hop : openAt κ k (hrAt κ t) := by have := z13; rw [open_eq] at this; exact this
                  refine jd_iload_n dX4_wayNow_79 rfl ?_
                  refine jd_aload dX4_wayNow_80 rfl ?_
                  refine jd_getN in_X8 ((w_mgate hw) k (show k < nG κ by omega)) 0 q1543 dX4_wayNow_82 rfl (Nat.le_of_ble_eq_true rfl) rfl ?_
                  refine jd_ishr dX4_wayNow_85 ?_
                  refine jd_iconst (v := 1) dX4_wayNow_86 (by decide) ?_
                  refine jd_iand dX4_wayNow_87 ?_
                  refine jd_iconst (v := 1) dX4_wayNow_88 (by decide) ?_
                  refine jd_icmp_ne (tgt := 104) dX4_wayNow_89 (by decide) (fun z15 => ?_) (fun z16 => ?_)
                  · have hi1 : ¬ wS κ f t (gOne κ k) = true := fun z => z15 ((ll_sB_has (by omega)).mpr z)
                    refine jd_iload_n dX4_wayNow_104 rfl ?_
                    refine jd_aload dX4_wayNow_105 rfl ?_
                    refine jd_getN in_X8 ((w_mgate hw) k (show k < nG κ by omega)) 1 q1545 dX4_wayNow_107 rfl (Nat.le_of_ble_eq_true rfl) rfl ?_
                    refine jd_ishr dX4_wayNow_110 ?_
                    refine jd_iconst (v := 1) dX4_wayNow_111 (by decide) ?_
                    refine jd_iand dX4_wayNow_112 ?_
                    refine jd_iconst (v := 1) dX4_wayNow_113 (by decide) ?_
                    refine jd_icmp_ne (tgt := 129) dX4_wayNow_114 (by decide) (fun z17 => ?_) (fun z18 => ?_)
                    · have hi2 : ¬ wS κ f t (gOther κ k) = true := fun z => z17 ((ll_sB_has (by omega)).mpr z)
                      refine jd_iincN (n := 1) (ls' := [_, _, _, _, _, _, _, _]) dX4_wayNow_129 rfl (Nat.le_of_ble_eq_true rfl) rfl rfl ?_
                      refine jd_goto (tgt := 32) dX4_wayNow_132 (by decide) ?_
                      refine jd_lsub [some (.ref (γ 0 0)), some (.int (nI f)), some (.int (nI d)), some (.int ((ll_sB (wS κ f t)))), some (.int (nI t)), some (.int ((ll_sB (gS κ f t (k + 1))))), some (.int (nI (k + 1))), none] ⟨rfl, rfl, rfl, rfl, rfl, (congrArg (fun x => some (Value.int x)) (gS_00 hop hi1 hi2)), rfl, trivial⟩ ?_
                      exact ih32 (k + 1) (by omega)
                    · have hi2 : wS κ f t (gOther κ k) = true := (ll_sB_has (by omega)).mp z18
                      refine jd_iload dX4_wayNow_117 rfl ?_
                      refine jd_iconst (v := 1) dX4_wayNow_119 (by decide) ?_
                      refine jd_aload dX4_wayNow_120 rfl ?_
                      refine jd_getN in_X8 ((w_mgate hw) k (show k < nG κ by omega)) 0 q1543 dX4_wayNow_122 rfl (Nat.le_of_ble_eq_true rfl) rfl ?_
                      refine jd_ishl dX4_wayNow_125 ?_
                      refine jd_ior dX4_wayNow_126 ?_
                      refine jd_istore (ls' := [_, _, _, _, _, _, _, _]) dX4_wayNow_127 (Nat.le_of_ble_eq_true rfl) rfl rfl ?_
                      refine jd_iincN (n := 1) (ls' := [_, _, _, _, _, _, _, _]) dX4_wayNow_129 rfl (Nat.le_of_ble_eq_true rfl) rfl rfl ?_
                      refine jd_goto (tgt := 32) dX4_wayNow_132 (by decide) ?_
                      refine jd_lsub [some (.ref (γ 0 0)), some (.int (nI f)), some (.int (nI d)), some (.int ((ll_sB (wS κ f t)))), some (.int (nI t)), some (.int ((ll_sB (gS κ f t (k + 1))))), some (.int (nI (k + 1))), none] ⟨rfl, rfl, rfl, rfl, rfl, (congrArg (fun x => some (Value.int x)) (gS_01 (by omega) hop hi1 hi2)), rfl, trivial⟩ ?_
                      exact ih32 (k + 1) (by omega)
                  · have hi1 : wS κ f t (gOne κ k) = true := (ll_sB_has (by omega)).mp z16
                    refine jd_iload dX4_wayNow_92 rfl ?_
                    refine jd_iconst (v := 1) dX4_wayNow_94 (by decide) ?_
                    refine jd_aload dX4_wayNow_95 rfl ?_
                    refine jd_getN in_X8 ((w_mgate hw) k (show k < nG κ by omega)) 1 q1545 dX4_wayNow_97 rfl (Nat.le_of_ble_eq_true rfl) rfl ?_
                    refine jd_ishl dX4_wayNow_100 ?_
                    refine jd_ior dX4_wayNow_101 ?_
                    refine jd_istore (ls' := [_, _, _, _, _, _, _, _]) dX4_wayNow_102 (Nat.le_of_ble_eq_true rfl) rfl rfl ?_
                    refine jd_iload_n dX4_wayNow_104 rfl ?_
                    refine jd_aload dX4_wayNow_105 rfl ?_
                    refine jd_getN in_X8 ((w_mgate hw) k (show k < nG κ by omega)) 1 q1545 dX4_wayNow_107 rfl (Nat.le_of_ble_eq_true rfl) rfl ?_
                    refine jd_ishr dX4_wayNow_110 ?_
                    refine jd_iconst (v := 1) dX4_wayNow_111 (by decide) ?_
                    refine jd_iand dX4_wayNow_112 ?_
                    refine jd_iconst (v := 1) dX4_wayNow_113 (by decide) ?_
                    refine jd_icmp_ne (tgt := 129) dX4_wayNow_114 (by decide) (fun z19 => ?_) (fun z20 => ?_)
                    · have hi2 : ¬ wS κ f t (gOther κ k) = true := fun z => z19 ((ll_sB_has (by omega)).mpr z)
                      refine jd_iincN (n := 1) (ls' := [_, _, _, _, _, _, _, _]) dX4_wayNow_129 rfl (Nat.le_of_ble_eq_true rfl) rfl rfl ?_
                      refine jd_goto (tgt := 32) dX4_wayNow_132 (by decide) ?_
                      refine jd_lsub [some (.ref (γ 0 0)), some (.int (nI f)), some (.int (nI d)), some (.int ((ll_sB (wS κ f t)))), some (.int (nI t)), some (.int ((ll_sB (gS κ f t (k + 1))))), some (.int (nI (k + 1))), none] ⟨rfl, rfl, rfl, rfl, rfl, (congrArg (fun x => some (Value.int x)) (gS_10 (by omega) hop hi1 hi2)), rfl, trivial⟩ ?_
                      exact ih32 (k + 1) (by omega)
                    · have hi2 : wS κ f t (gOther κ k) = true := (ll_sB_has (by omega)).mp z20
                      refine jd_iload dX4_wayNow_117 rfl ?_
                      refine jd_iconst (v := 1) dX4_wayNow_119 (by decide) ?_
                      refine jd_aload dX4_wayNow_120 rfl ?_
                      refine jd_getN in_X8 ((w_mgate hw) k (show k < nG κ by omega)) 0 q1543 dX4_wayNow_122 rfl (Nat.le_of_ble_eq_true rfl) rfl ?_
                      refine jd_ishl dX4_wayNow_125 ?_
                      refine jd_ior dX4_wayNow_126 ?_
                      refine jd_istore (ls' := [_, _, _, _, _, _, _, _]) dX4_wayNow_127 (Nat.le_of_ble_eq_true rfl) rfl rfl ?_
                      refine jd_iincN (n := 1) (ls' := [_, _, _, _, _, _, _, _]) dX4_wayNow_129 rfl (Nat.le_of_ble_eq_true rfl) rfl rfl ?_
                      refine jd_goto (tgt := 32) dX4_wayNow_132 (by decide) ?_
                      refine jd_lsub [some (.ref (γ 0 0)), some (.int (nI f)), some (.int (nI d)), some (.int ((ll_sB (wS κ f t)))), some (.int (nI t)), some (.int ((ll_sB (gS κ f t (k + 1))))), some (.int (nI (k + 1))), none] ⟨rfl, rfl, rfl, rfl, rfl, (congrArg (fun x => some (Value.int x)) (gS_11 (by omega) (by omega) hop hi1 hi2)), rfl, trivial⟩ ?_
                      exact ih32 (k + 1) (by omega)
                · have hop : ¬ openAt κ k (hrAt κ t) := by have := z14; rw [open_eq] at this; exact this
                  refine jd_goto (tgt := 129) dX4_wayNow_76 (by decide) ?_
                  refine jd_iincN (n := 1) (ls' := [_, _, _, _, _, _, _, _]) dX4_wayNow_129 rfl (Nat.le_of_ble_eq_true rfl) rfl rfl ?_
                  refine jd_goto (tgt := 32) dX4_wayNow_132 (by decide) ?_
                  refine jd_lsub [some (.ref (γ 0 0)), some (.int (nI f)), some (.int (nI d)), some (.int ((ll_sB (wS κ f t)))), some (.int (nI t)), some (.int ((ll_sB (gS κ f t (k + 1))))), some (.int (nI (k + 1))), none] ⟨rfl, rfl, rfl, rfl, rfl, (congrArg (fun x => some (Value.int x)) (gS_no hop)), rfl, trivial⟩ ?_
                  exact ih32 (k + 1) (by omega)
          refine jd_lsub [some (.ref (γ 0 0)), some (.int (nI f)), some (.int (nI d)), some (.int ((ll_sB (wS κ f t)))), some (.int (nI t)), some (.int ((ll_sB (gS κ f t 0)))), some (.int (nI 0)), none] ⟨rfl, rfl, rfl, rfl, rfl, rfl, rfl, trivial⟩ ?_
          exact lp32_8 (nG κ) 0 (by omega)
        · have hyes : (wayW κ f t d).isSome = true := (ll_sB_has (T := wS κ f t) (by omega)).mp z7
          refine jd_iload dX4_wayNow_23 rfl ?_
          exact jd_iret dX4_wayNow_25 rfl ⟨congrArg (fun x => some (Value.int x)) (way_is (by omega) hno hyes).symm, rfl⟩
  refine jd_lsub [some (.ref (γ 0 0)), some (.int (nI f)), some (.int (nI d)), some (.int ((ll_sB (wS κ f 0)))), some (.int (nI 0)), none, none, none] ⟨rfl, rfl, rfl, (congrArg (fun x => some (Value.int x)) ((ll_sB_one (by omega)).trans (congrArg ll_sB wS_0))), rfl, trivial⟩ ?_
  exact lp7_1 (73) 0 (by omega) (fun u hu => absurd hu (Nat.not_lt_zero u))

set_option maxRecDepth 20000 in
set_option maxHeartbeats 2000000 in
theorem ct_X4_catches {G : jd_G} {γ : ll_B} {κ : ll_K} {μ : ll_U} {h : jd_H} (hw : WM G γ κ μ h) (hI : ll_I κ)  : jd_Ct G mX4_catches 5 (1) (729) [.ref (γ 0 0)] h (jd_na G h ((nG κ + 1) * 81) (flat (FF8 κ (nG κ)))) jd_no := by
  obtain ⟨⟨hG8, hS12, hP24, hH40, hN99, hH24⟩, hIg, hIs, hIp, hIh, hIl, hIq⟩ := id hI
  obtain ⟨mcG, hlG⟩ := w_mgates hw
  obtain ⟨mcS, hlS⟩ := w_msleepers hw
  obtain ⟨mcP, hlP⟩ := w_mparts hw
  obtain ⟨mcH, hlH⟩ := w_mhidings hw
  refine jd_ct (ls := [some (.ref (γ 0 0)), none, none, none, none, none, none]) rfl rfl (by decide) (Nat.le_of_ble_eq_true rfl) rfl ?_
  refine jd_bipush (v := 81) dX4_catches_0 (by decide) ?_
  refine jd_istore_n (ls' := [_, _, _, _, _, _, _]) dX4_catches_2 (Nat.le_of_ble_eq_true rfl) rfl rfl ?_
  refine jd_aload_n dX4_catches_3 rfl ?_
  refine jd_get in_X4 (w_mthis hw) 7 q1473 dX4_catches_4 rfl (Nat.le_of_ble_eq_true rfl) rfl ?_
  refine jd_pV (As := []) (rest := []) (ct_J2_size hlG (show nG κ ≤ 900 by omega)) (jd_rv hlG 15 rfl rfl) rfl q1533 q344 q1999 q83 q346 nJ2_size dX4_catches_7 rfl rfl rfl (Nat.le_of_ble_eq_true rfl) ⟨(Nat.le_of_ble_eq_true rfl), (Nat.le_of_ble_eq_true rfl)⟩ ?_
  refine jd_iconst (v := 1) dX4_catches_10 (by decide) ?_
  refine jd_iaddN (a := nG κ) (b := 1) dX4_catches_11 ?_
  refine jd_iload_n dX4_catches_12 rfl ?_
  refine jd_imulN (a := (nG κ + 1)) (b := 81) dX4_catches_13 ?_
  refine jd_newa (atype := .int) (ty := .int) (N' := ((nG κ + 1) * 81)) rfl q591 dX4_catches_14 0 rfl (by decide) rfl (nI_pos (n := ((nG κ + 1) * 81)) (by omega)) (nI_clamp (n := ((nG κ + 1) * 81)) (by omega)) (by show _ * 4 ≤ _; omega) (by omega) (by omega) (fun q hq => ?_)
  refine jd_heq (h' := (jd_up h (0, q) (q, jd_ia G ((nG κ + 1) * 81) (flat (FF8 κ 0))))) (congrArg (fun F => jd_up h (0, q) (q, jd_ia G ((nG κ + 1) * 81) F)) (FF8_0.symm)) ?_
  refine jd_astore_n (ls' := [_, _, _, _, _, _, _]) dX4_catches_16 (Nat.le_of_ble_eq_true rfl) rfl rfl ?_
  refine jd_aload_n dX4_catches_17 rfl ?_
  refine jd_get in_X4 (jd_tmp (w_mthis hw)) 7 q1473 dX4_catches_18 rfl (Nat.le_of_ble_eq_true rfl) rfl ?_
  refine jd_pV (As := []) (rest := []) (ct_J2_size (jd_tmp hlG) (show nG κ ≤ 900 by omega)) (jd_rv (jd_tmp hlG) 15 rfl rfl) rfl q1533 q344 q1999 q83 q346 nJ2_size dX4_catches_21 rfl rfl rfl (Nat.le_of_ble_eq_true rfl) ⟨(Nat.le_of_ble_eq_true rfl), (Nat.le_of_ble_eq_true rfl)⟩ ?_
  refine jd_iconst (v := 1) dX4_catches_24 (by decide) ?_
  refine jd_isub dX4_catches_25 ?_
  refine jd_istore_n (ls' := [_, _, _, _, _, _, _]) dX4_catches_26 (Nat.le_of_ble_eq_true rfl) rfl rfl ?_
  have lp27_1 : ∀ (j : Nat) (m : Nat) (hm0 : m + j = nG κ), jd_W G mX4_catches 5 (1 - 1) (729 - ((nG κ + 1) * 81)) 27 [some (.ref (γ 0 0)), some (.int (81)), some (.ref (q)), some (.int ((gI κ m))), none, none, none] [] (jd_up h (0, q) (q, jd_ia G ((nG κ + 1) * 81) (flat (FF8 κ m)))) (jd_na G h ((nG κ + 1) * 81) (flat (FF8 κ (nG κ)))) jd_no := by
    intro j
    induction j with
    | zero =>
      intro m hm0
      obtain rfl : m = nG κ := by omega
      refine jd_lsub [some (.ref (γ 0 0)), some (.int (81)), some (.ref (q)), some (.int ((-1))), none, none, none] ⟨rfl, rfl, rfl, (congrArg (fun x => some (Value.int x)) gI_z), trivial⟩ ?_
      refine jd_iload_n dX4_catches_27 rfl ?_
      refine jd_if_lt (tgt := 131) dX4_catches_28 (by decide) (fun z2 => ?_) (fun z3 => ?_)
      · refine jd_aload_n dX4_catches_131 rfl ?_
        exact jd_aret dX4_catches_132 (Or.inr ⟨_, rfl⟩) ⟨q, hq, rfl, rfl⟩
      · exact absurd (by decide) z3
    | succ j ih27 =>
      intro m hm0
      refine jd_lsub [some (.ref (γ 0 0)), some (.int (81)), some (.ref (q)), some (.int (nI ((nG κ - 1 - m)))), none, none, none] ⟨rfl, rfl, rfl, (congrArg (fun x => some (Value.int x)) (if_pos (by omega))), trivial⟩ ?_
      refine jd_iload_n dX4_catches_27 rfl ?_
      refine jd_nif_lt (a := (nG κ - 1 - m)) (tgt := 131) dX4_catches_28 (by decide) (by omega) ?_
      refine jd_aload_n dX4_catches_31 rfl ?_
      refine jd_aload_n dX4_catches_32 rfl ?_
      refine jd_get in_X4 (jd_tmp (w_mthis hw)) 7 q1473 dX4_catches_33 rfl (Nat.le_of_ble_eq_true rfl) rfl ?_
      refine jd_iload_n dX4_catches_36 rfl ?_
      refine jd_pV (As := [.int (nI ((nG κ - 1 - m)))]) (rest := [.ref (γ 0 0)]) (ct_J2_get (jd_tmp hlG) (show nG κ ≤ 900 by omega) (k := (nG κ - 1 - m)) (show (nG κ - 1 - m) < nG κ by omega)) (jd_rv (jd_tmp hlG) 15 rfl rfl) rfl q1584 q325 q2001 q83 q327 nJ2_get dX4_catches_37 rfl rfl rfl (Nat.le_of_ble_eq_true rfl) ⟨(Nat.le_of_ble_eq_true rfl), (Nat.le_of_ble_eq_true rfl)⟩ ?_
      refine jd_castS (jd_rv (jd_tmp ((w_mgate hw) (nG κ - 1 - m) (show nG κ - 1 - m < nG κ by omega))) 11 rfl rfl) (ci := 11) rfl q1534 dX4_catches_40 ?_
      refine jd_pV (As := [.ref (γ 2 ((nG κ - 1 - m)))]) (rest := []) (ct_X4_hiddenWorth (WM.tmp hw hq) hI (nG κ - 1 - m) (by omega)) (jd_rv (jd_tmp (w_mthis hw)) 9 rfl rfl) rfl q1884 q1886 qs68 q90 q1887 nX4_hiddenWorth dX4_catches_43 rfl rfl rfl (Nat.le_of_ble_eq_true rfl) ⟨(Nat.le_of_ble_eq_true rfl), (Nat.le_of_ble_eq_true rfl)⟩ ?_
      have hge : nG κ - 1 - m = nG κ - (m + 1) := by omega
      have hwb := (hw_is hI (g := nG κ - (m + 1)) (by omega)).2
      refine jd_top (w := .int (nI (hwN κ (nG κ - (m + 1))))) (congrArg Value.int (by rw [hge]; exact (hw_is hI (by omega)).1)) ?_
      refine jd_istore (ls' := [_, _, _, _, _, _, _]) dX4_catches_46 (Nat.le_of_ble_eq_true rfl) rfl rfl ?_
      refine jd_iconst (v := 0) dX4_catches_48 (by decide) ?_
      refine jd_istore (ls' := [_, _, _, _, _, _, _]) dX4_catches_49 (Nat.le_of_ble_eq_true rfl) rfl rfl ?_
      have lp51_4 : ∀ (j : Nat) (s : Nat) (hs0 : s + j = 81), jd_W G mX4_catches 5 (1 - 1) (729 - ((nG κ + 1) * 81)) 51 [some (.ref (γ 0 0)), some (.int (81)), some (.ref (q)), some (.int (nI ((nG κ - 1 - m)))), some (.int (nI ((hwN κ (nG κ - (m + 1)))))), some (.int (nI s)), none] [] (jd_up h (0, q) (q, jd_ia G ((nG κ + 1) * 81) (flat (FG8 κ m s 0)))) (jd_na G h ((nG κ + 1) * 81) (flat (FF8 κ (nG κ)))) jd_no := by
        intro j
        induction j with
        | zero =>
          intro s hs0
          obtain rfl : s = 81 := by omega
          refine jd_iload dX4_catches_51 rfl ?_
          refine jd_iload_n dX4_catches_53 rfl ?_
          refine jd_ncmp_ge (a := 81) (b := 81) (tgt := 125) dX4_catches_54 (by decide) (by omega) (by omega) (fun z5 => ?_) (fun z6 => ?_)
          · refine jd_iinc (v := (nI ((nG κ - 1 - m)) + (-1))) (ls' := [_, _, _, _, _, _, _]) dX4_catches_125 rfl (by first | rfl | decide) (Nat.le_of_ble_eq_true rfl) rfl rfl ?_
            refine jd_goto (tgt := 27) dX4_catches_128 (by decide) ?_
            refine jd_heq (h' := (jd_up h (0, q) (q, jd_ia G ((nG κ + 1) * 81) (flat (FF8 κ ((m + 1))))))) (congrArg (fun F => jd_up h (0, q) (q, jd_ia G ((nG κ + 1) * 81) F)) ((FG8_L (by omega)).symm)) ?_
            refine jd_lsub [some (.ref (γ 0 0)), some (.int (81)), some (.ref (q)), some (.int ((gI κ (m + 1)))), none, none, none] ⟨rfl, rfl, rfl, (congrArg (fun x => some (Value.int x)) (gI_s (by omega) hG8)), trivial⟩ ?_
            exact ih27 (m + 1) (by omega)
          · omega
        | succ j ih51 =>
          intro s hs0
          refine jd_iload dX4_catches_51 rfl ?_
          refine jd_iload_n dX4_catches_53 rfl ?_
          refine jd_ncmp_ge (a := s) (b := 81) (tgt := 125) dX4_catches_54 (by decide) (by omega) (by omega) (fun z7 => ?_) (fun z8 => ?_)
          · omega
          · refine jd_iconst (v := 0) dX4_catches_57 (by decide) ?_
            refine jd_istore (ls' := [_, _, _, _, _, _, _]) dX4_catches_58 (Nat.le_of_ble_eq_true rfl) rfl rfl ?_
            have lp60_9 : ∀ (j : Nat) (o : Nat) (ho0 : o + j = (min 10 s + 1)), jd_W G mX4_catches 5 (1 - 1) (729 - ((nG κ + 1) * 81)) 60 [some (.ref (γ 0 0)), some (.int (81)), some (.ref (q)), some (.int (nI ((nG κ - 1 - m)))), some (.int (nI ((hwN κ (nG κ - (m + 1)))))), some (.int (nI s)), some (.int (nI o))] [] (jd_up h (0, q) (q, jd_ia G ((nG κ + 1) * 81) (flat (FG8 κ m s o)))) (jd_na G h ((nG κ + 1) * 81) (flat (FF8 κ (nG κ)))) jd_no := by
              intro j
              induction j with
              | zero =>
                intro o ho0
                obtain rfl : o = (min 10 s + 1) := by omega
                refine jd_iload dX4_catches_60 rfl ?_
                refine jd_bipush (v := 10) dX4_catches_62 (by decide) ?_
                refine jd_iload dX4_catches_64 rfl ?_
                refine jd_mmin q1953 q276 q87 q277 dX4_catches_66 (Nat.le_of_ble_eq_true rfl) (Nat.le_of_ble_eq_true rfl) ?_
                refine jd_top (congrArg Value.int (jd_minN (by omega) (by omega) : _ = nI (min (10) (s)))) ?_
                refine jd_ncmp_gt (a := (min 10 s + 1)) (b := (min (10) (s))) (tgt := 119) dX4_catches_69 (by decide) (by omega) (by omega) (fun z10 => ?_) (fun z11 => ?_)
                · refine jd_iincN (n := 1) (ls' := [_, _, _, _, _, _, _]) dX4_catches_119 rfl (Nat.le_of_ble_eq_true rfl) rfl rfl ?_
                  refine jd_goto (tgt := 51) dX4_catches_122 (by decide) ?_
                  refine jd_heq (h' := (jd_up h (0, q) (q, jd_ia G ((nG κ + 1) * 81) (flat (FG8 κ m ((s + 1)) 0))))) (congrArg (fun F => jd_up h (0, q) (q, jd_ia G ((nG κ + 1) * 81) F)) (FG8_s.symm)) ?_
                  refine jd_lsub [some (.ref (γ 0 0)), some (.int (81)), some (.ref (q)), some (.int (nI ((nG κ - 1 - m)))), some (.int (nI ((hwN κ (nG κ - (m + 1)))))), some (.int (nI (s + 1))), none] ⟨rfl, rfl, rfl, rfl, rfl, rfl, trivial⟩ ?_
                  exact ih51 (s + 1) (by omega)
                · omega
              | succ j ih60 =>
                intro o ho0
                have hwo : hwN κ (nG κ - (m + 1)) * o ≤ 28512 * 10 := Nat.mul_le_mul hwb (by omega)
                have hcb := catM_bd hI m (by omega) (s - o)
                have hmb := mxO_bd (s := s) (T := catM κ m) hwb (catM_bd hI m (by omega)) o (by omega)
                refine jd_iload dX4_catches_60 rfl ?_
                refine jd_bipush (v := 10) dX4_catches_62 (by decide) ?_
                refine jd_iload dX4_catches_64 rfl ?_
                refine jd_mmin q1953 q276 q87 q277 dX4_catches_66 (Nat.le_of_ble_eq_true rfl) (Nat.le_of_ble_eq_true rfl) ?_
                refine jd_top (congrArg Value.int (jd_minN (by omega) (by omega) : _ = nI (min (10) (s)))) ?_
                refine jd_ncmp_gt (a := o) (b := (min (10) (s))) (tgt := 119) dX4_catches_69 (by decide) (by omega) (by omega) (fun z12 => ?_) (fun z13 => ?_)
                · omega
                · refine jd_aload_n dX4_catches_72 rfl ?_
                  refine jd_iload_n dX4_catches_73 rfl ?_
                  refine jd_iload_n dX4_catches_74 rfl ?_
                  refine jd_imulN (a := (nG κ - 1 - m)) (b := 81) dX4_catches_75 ?_
                  refine jd_iload dX4_catches_76 rfl ?_
                  refine jd_iaddN (a := ((nG κ - 1 - m) * 81)) (b := s) dX4_catches_78 ?_
                  refine jd_aload_n dX4_catches_79 rfl ?_
                  refine jd_iload_n dX4_catches_80 rfl ?_
                  refine jd_iload_n dX4_catches_81 rfl ?_
                  refine jd_imulN (a := (nG κ - 1 - m)) (b := 81) dX4_catches_82 ?_
                  refine jd_iload dX4_catches_83 rfl ?_
                  refine jd_iaddN (a := ((nG κ - 1 - m) * 81)) (b := s) dX4_catches_85 ?_
                  refine jd_iald jd_up_s dX4_catches_86 (vp_in_nI (by omega) (by omega)) ?_
                  refine jd_top (v := .int ((flat (FG8 κ m s o)) (nI ((((nG κ - 1 - m) * 81) + s))).toNatClampNeg)) (w := .int (nI ((mxO (hwN κ (nG κ - (m + 1))) (catM κ m) s o)))) (by rw [nI_clamp (by omega), FG8_cur (by omega)]) ?_
                  refine jd_iload dX4_catches_87 rfl ?_
                  refine jd_iload dX4_catches_89 rfl ?_
                  refine jd_imulN (a := (hwN κ (nG κ - (m + 1)))) (b := o) dX4_catches_91 ?_
                  refine jd_bipush (v := 10) dX4_catches_92 (by decide) ?_
                  refine jd_idivN (a := ((hwN κ (nG κ - (m + 1))) * o)) (b := 10) dX4_catches_94 (by omega) (by omega) (by omega) ?_
                  refine jd_aload_n dX4_catches_95 rfl ?_
                  refine jd_iload_n dX4_catches_96 rfl ?_
                  refine jd_iconst (v := 1) dX4_catches_97 (by decide) ?_
                  refine jd_iaddN (a := (nG κ - 1 - m)) (b := 1) dX4_catches_98 ?_
                  refine jd_iload_n dX4_catches_99 rfl ?_
                  refine jd_imulN (a := ((nG κ - 1 - m) + 1)) (b := 81) dX4_catches_100 ?_
                  refine jd_iload dX4_catches_101 rfl ?_
                  refine jd_iaddN (a := (((nG κ - 1 - m) + 1) * 81)) (b := s) dX4_catches_103 ?_
                  refine jd_iload dX4_catches_104 rfl ?_
                  refine jd_isubN (a := ((((nG κ - 1 - m) + 1) * 81) + s)) (b := o) dX4_catches_106 (by omega) ?_
                  refine jd_iald jd_up_s dX4_catches_107 (vp_in_nI (by omega) (by omega)) ?_
                  refine jd_top (v := .int ((flat (FG8 κ m s o)) (nI ((((((nG κ - 1 - m) + 1) * 81) + s) - o))).toNatClampNeg)) (w := .int (nI ((catM κ m (s - o))))) (by rw [nI_clamp (by omega), FG8_nxt (by omega) (by omega) (by omega)]) ?_
                  refine jd_iaddN (a := (((hwN κ (nG κ - (m + 1))) * o) / 10)) (b := (catM κ m (s - o))) dX4_catches_108 ?_
                  refine jd_mmax q1801 q229 q87 q230 dX4_catches_109 (Nat.le_of_ble_eq_true rfl) (Nat.le_of_ble_eq_true rfl) ?_
                  refine jd_top (congrArg Value.int (jd_maxN (by omega) (by omega) : _ = nI (max ((mxO (hwN κ (nG κ - (m + 1))) (catM κ m) s o)) (((((hwN κ (nG κ - (m + 1))) * o) / 10) + (catM κ m (s - o))))))) ?_
                  refine jd_iast jd_up_s dX4_catches_112 (vp_in_nI (by omega) (by omega)) ?_
                  refine jd_heq (h' := (jd_up h (0, q) (q, jd_ia G ((nG κ + 1) * 81) (flat (FG8 κ m s (o + 1)))))) (by rw [jd_up_up, nI_clamp (by omega)]; exact congrArg (fun F => jd_up h (0, q) (q, jd_ia G ((nG κ + 1) * 81) F)) (FG8_o (by omega) rfl).symm) ?_
                  refine jd_iincN (n := 1) (ls' := [_, _, _, _, _, _, _]) dX4_catches_113 rfl (Nat.le_of_ble_eq_true rfl) rfl rfl ?_
                  refine jd_goto (tgt := 60) dX4_catches_116 (by decide) ?_
                  refine jd_lsub [some (.ref (γ 0 0)), some (.int (81)), some (.ref (q)), some (.int (nI ((nG κ - 1 - m)))), some (.int (nI ((hwN κ (nG κ - (m + 1)))))), some (.int (nI s)), some (.int (nI (o + 1)))] ⟨rfl, rfl, rfl, rfl, rfl, rfl, rfl, trivial⟩ ?_
                  exact ih60 (o + 1) (by omega)
            refine jd_lsub [some (.ref (γ 0 0)), some (.int (81)), some (.ref (q)), some (.int (nI ((nG κ - 1 - m)))), some (.int (nI ((hwN κ (nG κ - (m + 1)))))), some (.int (nI s)), some (.int (nI 0))] ⟨rfl, rfl, rfl, rfl, rfl, rfl, rfl, trivial⟩ ?_
            exact lp60_9 ((min 10 s + 1)) 0 (by omega)
      refine jd_heq (h' := (jd_up h (0, q) (q, jd_ia G ((nG κ + 1) * 81) (flat (FG8 κ m 0 0))))) (congrArg (fun F => jd_up h (0, q) (q, jd_ia G ((nG κ + 1) * 81) F)) (FG8_0 (by omega))) ?_
      refine jd_lsub [some (.ref (γ 0 0)), some (.int (81)), some (.ref (q)), some (.int (nI ((nG κ - 1 - m)))), some (.int (nI ((hwN κ (nG κ - (m + 1)))))), some (.int (nI 0)), none] ⟨rfl, rfl, rfl, rfl, rfl, rfl, trivial⟩ ?_
      exact lp51_4 (81) 0 (by omega)
  refine jd_lsub [some (.ref (γ 0 0)), some (.int (81)), some (.ref (q)), some (.int ((gI κ 0))), none, none, none] ⟨rfl, rfl, rfl, (congrArg (fun x => some (Value.int x)) (gI_0 hG8)), trivial⟩ ?_
  exact lp27_1 (nG κ) 0 (by omega)

set_option maxRecDepth 20000 in
set_option maxHeartbeats 2000000 in
theorem ct_X4_planNow {G : jd_G} {γ : ll_B} {κ : ll_K} {μ : ll_U} {h : jd_H} (hw : WM G γ κ μ h) (hI : ll_I κ) (p : Nat) (hp : p ≤ 2000) (o : Option Nat) (ho : ∀ j, o = some j → j < nG κ) : jd_Ct G mX4_planNow 6 (1) (729) [.ref (γ 0 0), .int (nI p), .int ((oI o))] h (jd_pu h (.int (planVal κ p o))) jd_no := by
  obtain ⟨⟨hG8, hS12, hP24, hH40, hN99, hH24⟩, hIg, hIs, hIp, hIh, hIl, hIq⟩ := id hI
  obtain ⟨mcG, hlG⟩ := w_mgates hw
  obtain ⟨mcS, hlS⟩ := w_msleepers hw
  obtain ⟨mcP, hlP⟩ := w_mparts hw
  obtain ⟨mcH, hlH⟩ := w_mhidings hw
  refine jd_ct (ls := [some (.ref (γ 0 0)), some (.int (nI p)), some (.int ((oI o))), none, none, none, none, none, none, none]) rfl rfl (by decide) (Nat.le_of_ble_eq_true rfl) rfl ?_
  refine jd_bipush (v := 81) dX4_planNow_0 (by decide) ?_
  refine jd_istore_n (ls' := [_, _, _, _, _, _, _, _, _, _]) dX4_planNow_2 (Nat.le_of_ble_eq_true rfl) rfl rfl ?_
  refine jd_aload_n dX4_planNow_3 rfl ?_
  refine jd_callV (As := []) (rest := []) (ct_X4_catches hw hI) (jd_rv (w_mthis hw) 9 rfl rfl) rfl q1949 q1951 qs75 q90 q1952 nX4_catches dX4_planNow_4 rfl rfl rfl (Nat.le_of_ble_eq_true rfl) ⟨(Nat.le_of_ble_eq_true rfl), (Nat.le_of_ble_eq_true rfl), by omega, by omega⟩ (fun rv0 hn0 hq0 => ?_) jd_nox
  obtain ⟨q, hq, rfl, he0⟩ := hq0
  rw [he0]
  refine jd_astore (ls' := [_, _, _, _, _, _, _, _, _, _]) dX4_planNow_7 (Nat.le_of_ble_eq_true rfl) rfl rfl ?_
  refine jd_iconst (v := 0) dX4_planNow_9 (by decide) ?_
  refine jd_istore (ls' := [_, _, _, _, _, _, _, _, _, _]) dX4_planNow_10 (Nat.le_of_ble_eq_true rfl) rfl rfl ?_
  have lp12_2 : ∀ (j : Nat) (k : Nat) (hk0 : k + j = 81) (hno : ∀ i, i < k → ¬ p ≤ catM κ (nG κ) i), jd_W G mX4_planNow 6 (1 - 1) (729 - 729) 12 [some (.ref (γ 0 0)), some (.int (nI p)), some (.int ((oI o))), some (.int (81)), some (.ref (q)), some (.int (nI k)), none, none, none, none] [] (jd_up h (0, q) (q, jd_ia G ((nG κ + 1) * 81) (flat (FF8 κ (nG κ))))) (jd_pu h (.int (planVal κ p o))) jd_no := by
    intro j
    induction j with
    | zero =>
      intro k hk0 hno
      obtain rfl : k = 81 := by omega
      refine jd_iload dX4_planNow_12 rfl ?_
      refine jd_iload_n dX4_planNow_14 rfl ?_
      refine jd_ncmp_ge (a := 81) (b := 81) (tgt := 33) dX4_planNow_15 (by decide) (by omega) (by omega) (fun z3 => ?_) (fun z4 => ?_)
      · refine jd_iload dX4_planNow_33 rfl ?_
        refine jd_iload_n dX4_planNow_35 rfl ?_
        refine jd_ncmp_ne (a := 81) (b := 81) (tgt := 41) dX4_planNow_36 (by decide) (by omega) (by omega) (fun z5 => ?_) (fun z6 => ?_)
        · omega
        · refine jd_drop (jd_tmp_keep hq) ?_
          refine jd_iconst (v := (-1)) dX4_planNow_39 (by decide) ?_
          exact jd_iret dX4_planNow_40 rfl ⟨by rw [planVal, ← least81 hG8, leastS, ll_find_none hno], rfl⟩
      · omega
    | succ j ih12 =>
      intro k hk0 hno
      refine jd_iload dX4_planNow_12 rfl ?_
      refine jd_iload_n dX4_planNow_14 rfl ?_
      refine jd_ncmp_ge (a := k) (b := 81) (tgt := 33) dX4_planNow_15 (by decide) (by omega) (by omega) (fun z7 => ?_) (fun z8 => ?_)
      · omega
      · refine jd_aload dX4_planNow_18 rfl ?_
        refine jd_iload dX4_planNow_20 rfl ?_
        have hcbk := catM_bd hI (nG κ) (Nat.le_refl _) k
        refine jd_iald jd_up_s dX4_planNow_22 (vp_in_nI (by omega) (by omega)) ?_
        refine jd_top (v := .int ((flat (FF8 κ (nG κ))) (nI (k)).toNatClampNeg)) (w := .int (nI ((catM κ (nG κ) k)))) (by rw [nI_clamp (by omega), FF8_at (by omega)]) ?_
        refine jd_iload_n dX4_planNow_23 rfl ?_
        refine jd_ncmp_ge (a := (catM κ (nG κ) k)) (b := p) (tgt := 33) dX4_planNow_24 (by decide) (by omega) (by omega) (fun z9 => ?_) (fun z10 => ?_)
        · have hs0 : leastS (catM κ (nG κ)) p (10 * nG κ + 1) = some k := by rw [← least81 hG8]; exact ll_find_some (P := fun s => p ≤ catM κ (nG κ) s) (by omega) (by omega) hno
          have hp0 : p ≤ catM κ (nG κ) k := by omega
          refine jd_iload dX4_planNow_33 rfl ?_
          refine jd_iload_n dX4_planNow_35 rfl ?_
          refine jd_ncmp_ne (a := k) (b := 81) (tgt := 41) dX4_planNow_36 (by decide) (by omega) (by omega) (fun z11 => ?_) (fun z12 => ?_)
          · refine jd_iload_n dX4_planNow_41 rfl ?_
            refine jd_iconst (v := (-1)) dX4_planNow_42 (by decide) ?_
            refine jd_ocmpN_ne (tgt := 49) dX4_planNow_43 (by decide) (fun j hj => by have := ho j hj; omega) (fun z13 => ?_) (fun z14 => ?_)
            · obtain ⟨wh, hwh0⟩ := Option.ne_none_iff_exists'.mp z13
              have hwh := ho wh hwh0
              refine jd_lsub [some (.ref (γ 0 0)), some (.int (nI p)), some (.int (nI wh)), some (.int (81)), some (.ref (q)), some (.int (nI k)), none, none, none, none] ⟨rfl, rfl, (congrArg (fun x => some (Value.int x)) (by rw [hwh0]; rfl)), rfl, rfl, rfl, trivial⟩ ?_
              refine jd_iload_n dX4_planNow_49 rfl ?_
              refine jd_istore (ls' := [_, _, _, _, _, _, _, _, _, _]) dX4_planNow_50 (Nat.le_of_ble_eq_true rfl) rfl rfl ?_
              refine jd_iconst (v := 0) dX4_planNow_52 (by decide) ?_
              refine jd_istore (ls' := [_, _, _, _, _, _, _, _, _, _]) dX4_planNow_53 (Nat.le_of_ble_eq_true rfl) rfl rfl ?_
              have lp55_15 : ∀ (j : Nat) (g : Nat) (hg0 : g + j = wh), jd_W G mX4_planNow 6 (1 - 1) (729 - 729) 55 [some (.ref (γ 0 0)), some (.int (nI p)), some (.int (nI wh)), some (.int (81)), some (.ref (q)), some (.int (nI ((plS κ k p g).1))), some (.int ((plS κ k p g).2)), some (.int (nI g)), none, none] [] (jd_up h (0, q) (q, jd_ia G ((nG κ + 1) * 81) (flat (FF8 κ (nG κ))))) (jd_pu h (.int (planVal κ p o))) jd_no := by
                intro j
                induction j with
                | zero =>
                  intro g hg0
                  have hpl := plS_ok hI hp hp0 (by omega) g (by omega)
                  have hwb := (hw_is hI (g := g) (by omega)).2
                  have hcb0 := fun x => catM_bd hI (nG κ - (g + 1)) (by omega) x
                  have hl2 := hpl.2.1
                  rw [catM_s (by omega)] at hl2
                  have hok := odds_ok (by have := hcb0 ((plS κ k p g).1 - 0); omega) hl2
                  have hS80 : (plS κ k p g).1 ≤ 80 := by omega
                  have hcb : ∀ x, catM κ (nG κ - (g + 1)) x ≤ 228096 := fun x => by have := hcb0 x; omega
                  clear hpl hl2 hcb0
                  obtain ⟨S, hSe⟩ : ∃ S, S = (plS κ k p g).1 := ⟨_, rfl⟩
                  obtain ⟨RR, hRe⟩ : ∃ R, R = (plS κ k p g).2 := ⟨_, rfl⟩
                  obtain ⟨T, hTe⟩ : ∃ T, T = catM κ (nG κ - (g + 1)) := ⟨_, rfl⟩
                  obtain ⟨Wg, hWe⟩ : ∃ W, W = hwN κ g := ⟨_, rfl⟩
                  rw [← hSe, ← hRe, ← hTe, ← hWe] at hok
                  rw [← hSe] at hS80
                  rw [← hWe] at hwb
                  simp only [← hTe] at hcb
                  obtain ⟨od, hOe⟩ : ∃ d, d = oddsI Wg T S RR := ⟨_, rfl⟩
                  rw [← hOe] at hok
                  obtain ⟨hok1, hok2, hok3⟩ := hok
                  have hwo := Nat.mul_le_mul hwb (show od ≤ 10 by omega)
                  have hcs2 := hcb (S - od)
                  refine jd_lsub [some (.ref (γ 0 0)), some (.int (nI p)), some (.int (nI wh)), some (.int (81)), some (.ref (q)), some (.int (nI S)), some (.int ((plS κ k p g).2)), some (.int (nI g)), none, none] ⟨rfl, rfl, rfl, rfl, rfl, (congrArg (fun x => some (Value.int x)) (congrArg nI hSe.symm)), rfl, rfl, trivial⟩ ?_
                  refine jd_lsub [some (.ref (γ 0 0)), some (.int (nI p)), some (.int (nI wh)), some (.int (81)), some (.ref (q)), some (.int (nI S)), some (.int (RR)), some (.int (nI g)), none, none] ⟨rfl, rfl, rfl, rfl, rfl, rfl, (congrArg (fun x => some (Value.int x)) (hRe.symm)), rfl, trivial⟩ ?_
                  refine jd_iload dX4_planNow_55 rfl ?_
                  refine jd_aload_n dX4_planNow_57 rfl ?_
                  refine jd_get in_X4 (jd_tmp (w_mthis hw)) 7 q1473 dX4_planNow_58 rfl (Nat.le_of_ble_eq_true rfl) rfl ?_
                  refine jd_pV (As := []) (rest := [.int (nI g)]) (ct_J2_size (jd_tmp hlG) (show nG κ ≤ 900 by omega)) (jd_rv (jd_tmp hlG) 15 rfl rfl) rfl q1533 q344 q1999 q83 q346 nJ2_size dX4_planNow_61 rfl rfl rfl (Nat.le_of_ble_eq_true rfl) ⟨(Nat.le_of_ble_eq_true rfl), (Nat.le_of_ble_eq_true rfl)⟩ ?_
                  refine jd_ncmp_ge (a := g) (b := nG κ) (tgt := 158) dX4_planNow_64 (by decide) (by omega) (by omega) (fun z16 => ?_) (fun z17 => ?_)
                  · omega
                  · refine jd_aload_n dX4_planNow_67 rfl ?_
                    refine jd_aload_n dX4_planNow_68 rfl ?_
                    refine jd_get in_X4 (jd_tmp (w_mthis hw)) 7 q1473 dX4_planNow_69 rfl (Nat.le_of_ble_eq_true rfl) rfl ?_
                    refine jd_iload dX4_planNow_72 rfl ?_
                    refine jd_pV (As := [.int (nI g)]) (rest := [.ref (γ 0 0)]) (ct_J2_get (jd_tmp hlG) (show nG κ ≤ 900 by omega) (k := g) (show g < nG κ by omega)) (jd_rv (jd_tmp hlG) 15 rfl rfl) rfl q1584 q325 q2001 q83 q327 nJ2_get dX4_planNow_74 rfl rfl rfl (Nat.le_of_ble_eq_true rfl) ⟨(Nat.le_of_ble_eq_true rfl), (Nat.le_of_ble_eq_true rfl)⟩ ?_
                    refine jd_castS (jd_rv (jd_tmp ((w_mgate hw) g (show g < nG κ by omega))) 11 rfl rfl) (ci := 11) rfl q1534 dX4_planNow_77 ?_
                    refine jd_pV (As := [.ref (γ 2 g)]) (rest := []) (ct_X4_hiddenWorth (WM.tmp hw hq) hI (g) (by omega)) (jd_rv (jd_tmp (w_mthis hw)) 9 rfl rfl) rfl q1884 q1886 qs68 q90 q1887 nX4_hiddenWorth dX4_planNow_80 rfl rfl rfl (Nat.le_of_ble_eq_true rfl) ⟨(Nat.le_of_ble_eq_true rfl), (Nat.le_of_ble_eq_true rfl)⟩ ?_
                    refine jd_top (w := .int (nI Wg)) (congrArg Value.int (by rw [hWe]; exact (hw_is hI (by omega)).1)) ?_
                    refine jd_istore (ls' := [_, _, _, _, _, _, _, _, _, _]) dX4_planNow_83 (Nat.le_of_ble_eq_true rfl) rfl rfl ?_
                    refine jd_iconst (v := 0) dX4_planNow_85 (by decide) ?_
                    refine jd_istore (ls' := [_, _, _, _, _, _, _, _, _, _]) dX4_planNow_86 (Nat.le_of_ble_eq_true rfl) rfl rfl ?_
                    have lp88_18 : ∀ (j : Nat) (ov : Nat) (hov0 : ov + j = od), jd_W G mX4_planNow 6 (1 - 1) (729 - 729) 88 [some (.ref (γ 0 0)), some (.int (nI p)), some (.int (nI wh)), some (.int (81)), some (.ref (q)), some (.int (nI S)), some (.int (RR)), some (.int (nI g)), some (.int (nI Wg)), some (.int (nI ov))] [] (jd_up h (0, q) (q, jd_ia G ((nG κ + 1) * 81) (flat (FF8 κ (nG κ))))) (jd_pu h (.int (planVal κ p o))) jd_no := by
                      intro j
                      induction j with
                      | zero =>
                        intro ov hov0
                        have hke : ov = od := by omega
                        rw [hke]
                        refine jd_iload dX4_planNow_88 rfl ?_
                        refine jd_iload dX4_planNow_90 rfl ?_
                        refine jd_imulN (a := Wg) (b := od) dX4_planNow_92 ?_
                        refine jd_bipush (v := 10) dX4_planNow_93 (by decide) ?_
                        refine jd_idivN (a := (Wg * od)) (b := 10) dX4_planNow_95 (by omega) (by omega) (by omega) ?_
                        refine jd_aload dX4_planNow_96 rfl ?_
                        refine jd_iload dX4_planNow_98 rfl ?_
                        refine jd_iconst (v := 1) dX4_planNow_100 (by decide) ?_
                        refine jd_iaddN (a := g) (b := 1) dX4_planNow_101 ?_
                        refine jd_iload_n dX4_planNow_102 rfl ?_
                        refine jd_imulN (a := (g + 1)) (b := 81) dX4_planNow_103 ?_
                        refine jd_iload dX4_planNow_104 rfl ?_
                        refine jd_iaddN (a := ((g + 1) * 81)) (b := S) dX4_planNow_106 ?_
                        refine jd_iload dX4_planNow_107 rfl ?_
                        refine jd_isubN (a := (((g + 1) * 81) + S)) (b := od) dX4_planNow_109 (by omega) ?_
                        refine jd_iald jd_up_s dX4_planNow_110 (vp_in_nI (by omega) (by omega)) ?_
                        refine jd_top (v := .int ((flat (FF8 κ (nG κ))) (nI (((((g + 1) * 81) + S) - od))).toNatClampNeg)) (w := .int (nI ((T (S - od))))) (by rw [nI_clamp (by omega), FF8_row (by omega) (by omega), ← hTe]) ?_
                        refine jd_iaddN (a := ((Wg * od) / 10)) (b := (T (S - od))) dX4_planNow_111 ?_
                        refine jd_iload dX4_planNow_112 rfl ?_
                        refine jd_icmp_ge (tgt := 123) dX4_planNow_114 (by decide) (fun z19 => ?_) (fun z20 => ?_)
                        · refine jd_iload dX4_planNow_123 rfl ?_
                          refine jd_iload_n dX4_planNow_125 rfl ?_
                          refine jd_ncmp_ne (a := g) (b := wh) (tgt := 132) dX4_planNow_126 (by decide) (by omega) (by omega) (fun z21 => ?_) (fun z22 => ?_)
                          · omega
                          · refine jd_drop (jd_tmp_keep hq) ?_
                            refine jd_iload dX4_planNow_129 rfl ?_
                            exact jd_iret dX4_planNow_131 rfl ⟨by have e : plO κ k p wh = od := (by rw [show wh = g by omega, hOe, hTe, hWe, hSe, hRe]; rfl); simp only [planVal, hs0, hwh0, e], rfl⟩
                        · exact absurd hok2 z20
                      | succ j ih88 =>
                        intro ov hov0
                        have hwo2 := Nat.mul_le_mul hwb (show ov ≤ 10 by omega)
                        have hcs := hcb (S - ov)
                        refine jd_iload dX4_planNow_88 rfl ?_
                        refine jd_iload dX4_planNow_90 rfl ?_
                        refine jd_imulN (a := Wg) (b := ov) dX4_planNow_92 ?_
                        refine jd_bipush (v := 10) dX4_planNow_93 (by decide) ?_
                        refine jd_idivN (a := (Wg * ov)) (b := 10) dX4_planNow_95 (by omega) (by omega) (by omega) ?_
                        refine jd_aload dX4_planNow_96 rfl ?_
                        refine jd_iload dX4_planNow_98 rfl ?_
                        refine jd_iconst (v := 1) dX4_planNow_100 (by decide) ?_
                        refine jd_iaddN (a := g) (b := 1) dX4_planNow_101 ?_
                        refine jd_iload_n dX4_planNow_102 rfl ?_
                        refine jd_imulN (a := (g + 1)) (b := 81) dX4_planNow_103 ?_
                        refine jd_iload dX4_planNow_104 rfl ?_
                        refine jd_iaddN (a := ((g + 1) * 81)) (b := S) dX4_planNow_106 ?_
                        refine jd_iload dX4_planNow_107 rfl ?_
                        refine jd_isubN (a := (((g + 1) * 81) + S)) (b := ov) dX4_planNow_109 (by omega) ?_
                        refine jd_iald jd_up_s dX4_planNow_110 (vp_in_nI (by omega) (by omega)) ?_
                        refine jd_top (v := .int ((flat (FF8 κ (nG κ))) (nI (((((g + 1) * 81) + S) - ov))).toNatClampNeg)) (w := .int (nI ((T (S - ov))))) (by rw [nI_clamp (by omega), FF8_row (by omega) (by omega), ← hTe]) ?_
                        refine jd_iaddN (a := ((Wg * ov) / 10)) (b := (T (S - ov))) dX4_planNow_111 ?_
                        refine jd_iload dX4_planNow_112 rfl ?_
                        refine jd_icmp_ge (tgt := 123) dX4_planNow_114 (by decide) (fun z23 => ?_) (fun z24 => ?_)
                        · exact absurd z23 (hok3 _ (by omega))
                        · refine jd_iincN (n := 1) (ls' := [_, _, _, _, _, _, _, _, _, _]) dX4_planNow_117 rfl (Nat.le_of_ble_eq_true rfl) rfl rfl ?_
                          refine jd_goto (tgt := 88) dX4_planNow_120 (by decide) ?_
                          refine jd_lsub [some (.ref (γ 0 0)), some (.int (nI p)), some (.int (nI wh)), some (.int (81)), some (.ref (q)), some (.int (nI S)), some (.int (RR)), some (.int (nI g)), some (.int (nI Wg)), some (.int (nI (ov + 1)))] ⟨rfl, rfl, rfl, rfl, rfl, rfl, rfl, rfl, rfl, rfl, trivial⟩ ?_
                          exact ih88 (ov + 1) (by omega)
                    refine jd_lsub [some (.ref (γ 0 0)), some (.int (nI p)), some (.int (nI wh)), some (.int (81)), some (.ref (q)), some (.int (nI S)), some (.int (RR)), some (.int (nI g)), some (.int (nI Wg)), some (.int (nI 0))] ⟨rfl, rfl, rfl, rfl, rfl, rfl, rfl, rfl, rfl, rfl, trivial⟩ ?_
                    exact lp88_18 (od) 0 (by omega)
                | succ j ih55 =>
                  intro g hg0
                  have hpl := plS_ok hI hp hp0 (by omega) g (by omega)
                  have hwb := (hw_is hI (g := g) (by omega)).2
                  have hcb0 := fun x => catM_bd hI (nG κ - (g + 1)) (by omega) x
                  have hl2 := hpl.2.1
                  rw [catM_s (by omega)] at hl2
                  have hok := odds_ok (by have := hcb0 ((plS κ k p g).1 - 0); omega) hl2
                  have hS80 : (plS κ k p g).1 ≤ 80 := by omega
                  have hcb : ∀ x, catM κ (nG κ - (g + 1)) x ≤ 228096 := fun x => by have := hcb0 x; omega
                  clear hpl hl2 hcb0
                  obtain ⟨S, hSe⟩ : ∃ S, S = (plS κ k p g).1 := ⟨_, rfl⟩
                  obtain ⟨RR, hRe⟩ : ∃ R, R = (plS κ k p g).2 := ⟨_, rfl⟩
                  obtain ⟨T, hTe⟩ : ∃ T, T = catM κ (nG κ - (g + 1)) := ⟨_, rfl⟩
                  obtain ⟨Wg, hWe⟩ : ∃ W, W = hwN κ g := ⟨_, rfl⟩
                  rw [← hSe, ← hRe, ← hTe, ← hWe] at hok
                  rw [← hSe] at hS80
                  rw [← hWe] at hwb
                  simp only [← hTe] at hcb
                  obtain ⟨od, hOe⟩ : ∃ d, d = oddsI Wg T S RR := ⟨_, rfl⟩
                  rw [← hOe] at hok
                  obtain ⟨hok1, hok2, hok3⟩ := hok
                  have hwo := Nat.mul_le_mul hwb (show od ≤ 10 by omega)
                  have hcs2 := hcb (S - od)
                  refine jd_lsub [some (.ref (γ 0 0)), some (.int (nI p)), some (.int (nI wh)), some (.int (81)), some (.ref (q)), some (.int (nI S)), some (.int ((plS κ k p g).2)), some (.int (nI g)), none, none] ⟨rfl, rfl, rfl, rfl, rfl, (congrArg (fun x => some (Value.int x)) (congrArg nI hSe.symm)), rfl, rfl, trivial⟩ ?_
                  refine jd_lsub [some (.ref (γ 0 0)), some (.int (nI p)), some (.int (nI wh)), some (.int (81)), some (.ref (q)), some (.int (nI S)), some (.int (RR)), some (.int (nI g)), none, none] ⟨rfl, rfl, rfl, rfl, rfl, rfl, (congrArg (fun x => some (Value.int x)) (hRe.symm)), rfl, trivial⟩ ?_
                  refine jd_iload dX4_planNow_55 rfl ?_
                  refine jd_aload_n dX4_planNow_57 rfl ?_
                  refine jd_get in_X4 (jd_tmp (w_mthis hw)) 7 q1473 dX4_planNow_58 rfl (Nat.le_of_ble_eq_true rfl) rfl ?_
                  refine jd_pV (As := []) (rest := [.int (nI g)]) (ct_J2_size (jd_tmp hlG) (show nG κ ≤ 900 by omega)) (jd_rv (jd_tmp hlG) 15 rfl rfl) rfl q1533 q344 q1999 q83 q346 nJ2_size dX4_planNow_61 rfl rfl rfl (Nat.le_of_ble_eq_true rfl) ⟨(Nat.le_of_ble_eq_true rfl), (Nat.le_of_ble_eq_true rfl)⟩ ?_
                  refine jd_ncmp_ge (a := g) (b := nG κ) (tgt := 158) dX4_planNow_64 (by decide) (by omega) (by omega) (fun z25 => ?_) (fun z26 => ?_)
                  · omega
                  · refine jd_aload_n dX4_planNow_67 rfl ?_
                    refine jd_aload_n dX4_planNow_68 rfl ?_
                    refine jd_get in_X4 (jd_tmp (w_mthis hw)) 7 q1473 dX4_planNow_69 rfl (Nat.le_of_ble_eq_true rfl) rfl ?_
                    refine jd_iload dX4_planNow_72 rfl ?_
                    refine jd_pV (As := [.int (nI g)]) (rest := [.ref (γ 0 0)]) (ct_J2_get (jd_tmp hlG) (show nG κ ≤ 900 by omega) (k := g) (show g < nG κ by omega)) (jd_rv (jd_tmp hlG) 15 rfl rfl) rfl q1584 q325 q2001 q83 q327 nJ2_get dX4_planNow_74 rfl rfl rfl (Nat.le_of_ble_eq_true rfl) ⟨(Nat.le_of_ble_eq_true rfl), (Nat.le_of_ble_eq_true rfl)⟩ ?_
                    refine jd_castS (jd_rv (jd_tmp ((w_mgate hw) g (show g < nG κ by omega))) 11 rfl rfl) (ci := 11) rfl q1534 dX4_planNow_77 ?_
                    refine jd_pV (As := [.ref (γ 2 g)]) (rest := []) (ct_X4_hiddenWorth (WM.tmp hw hq) hI (g) (by omega)) (jd_rv (jd_tmp (w_mthis hw)) 9 rfl rfl) rfl q1884 q1886 qs68 q90 q1887 nX4_hiddenWorth dX4_planNow_80 rfl rfl rfl (Nat.le_of_ble_eq_true rfl) ⟨(Nat.le_of_ble_eq_true rfl), (Nat.le_of_ble_eq_true rfl)⟩ ?_
                    refine jd_top (w := .int (nI Wg)) (congrArg Value.int (by rw [hWe]; exact (hw_is hI (by omega)).1)) ?_
                    refine jd_istore (ls' := [_, _, _, _, _, _, _, _, _, _]) dX4_planNow_83 (Nat.le_of_ble_eq_true rfl) rfl rfl ?_
                    refine jd_iconst (v := 0) dX4_planNow_85 (by decide) ?_
                    refine jd_istore (ls' := [_, _, _, _, _, _, _, _, _, _]) dX4_planNow_86 (Nat.le_of_ble_eq_true rfl) rfl rfl ?_
                    have lp88_27 : ∀ (j : Nat) (ov : Nat) (hov0 : ov + j = od), jd_W G mX4_planNow 6 (1 - 1) (729 - 729) 88 [some (.ref (γ 0 0)), some (.int (nI p)), some (.int (nI wh)), some (.int (81)), some (.ref (q)), some (.int (nI S)), some (.int (RR)), some (.int (nI g)), some (.int (nI Wg)), some (.int (nI ov))] [] (jd_up h (0, q) (q, jd_ia G ((nG κ + 1) * 81) (flat (FF8 κ (nG κ))))) (jd_pu h (.int (planVal κ p o))) jd_no := by
                      intro j
                      induction j with
                      | zero =>
                        intro ov hov0
                        have hke : ov = od := by omega
                        rw [hke]
                        refine jd_iload dX4_planNow_88 rfl ?_
                        refine jd_iload dX4_planNow_90 rfl ?_
                        refine jd_imulN (a := Wg) (b := od) dX4_planNow_92 ?_
                        refine jd_bipush (v := 10) dX4_planNow_93 (by decide) ?_
                        refine jd_idivN (a := (Wg * od)) (b := 10) dX4_planNow_95 (by omega) (by omega) (by omega) ?_
                        refine jd_aload dX4_planNow_96 rfl ?_
                        refine jd_iload dX4_planNow_98 rfl ?_
                        refine jd_iconst (v := 1) dX4_planNow_100 (by decide) ?_
                        refine jd_iaddN (a := g) (b := 1) dX4_planNow_101 ?_
                        refine jd_iload_n dX4_planNow_102 rfl ?_
                        refine jd_imulN (a := (g + 1)) (b := 81) dX4_planNow_103 ?_
                        refine jd_iload dX4_planNow_104 rfl ?_
                        refine jd_iaddN (a := ((g + 1) * 81)) (b := S) dX4_planNow_106 ?_
                        refine jd_iload dX4_planNow_107 rfl ?_
                        refine jd_isubN (a := (((g + 1) * 81) + S)) (b := od) dX4_planNow_109 (by omega) ?_
                        refine jd_iald jd_up_s dX4_planNow_110 (vp_in_nI (by omega) (by omega)) ?_
                        refine jd_top (v := .int ((flat (FF8 κ (nG κ))) (nI (((((g + 1) * 81) + S) - od))).toNatClampNeg)) (w := .int (nI ((T (S - od))))) (by rw [nI_clamp (by omega), FF8_row (by omega) (by omega), ← hTe]) ?_
                        refine jd_iaddN (a := ((Wg * od) / 10)) (b := (T (S - od))) dX4_planNow_111 ?_
                        refine jd_iload dX4_planNow_112 rfl ?_
                        refine jd_icmp_ge (tgt := 123) dX4_planNow_114 (by decide) (fun z28 => ?_) (fun z29 => ?_)
                        · refine jd_iload dX4_planNow_123 rfl ?_
                          refine jd_iload_n dX4_planNow_125 rfl ?_
                          refine jd_ncmp_ne (a := g) (b := wh) (tgt := 132) dX4_planNow_126 (by decide) (by omega) (by omega) (fun z30 => ?_) (fun z31 => ?_)
                          · refine jd_iload dX4_planNow_132 rfl ?_
                            refine jd_iload dX4_planNow_134 rfl ?_
                            refine jd_isubN (a := S) (b := od) dX4_planNow_136 (by omega) ?_
                            refine jd_istore (ls' := [_, _, _, _, _, _, _, _, _, _]) dX4_planNow_137 (Nat.le_of_ble_eq_true rfl) rfl rfl ?_
                            refine jd_iload dX4_planNow_139 rfl ?_
                            refine jd_iload dX4_planNow_141 rfl ?_
                            refine jd_iload dX4_planNow_143 rfl ?_
                            refine jd_imulN (a := Wg) (b := od) dX4_planNow_145 ?_
                            refine jd_bipush (v := 10) dX4_planNow_146 (by decide) ?_
                            refine jd_idivN (a := (Wg * od)) (b := 10) dX4_planNow_148 (by omega) (by omega) (by omega) ?_
                            refine jd_isub dX4_planNow_149 ?_
                            refine jd_istore (ls' := [_, _, _, _, _, _, _, _, _, _]) dX4_planNow_150 (Nat.le_of_ble_eq_true rfl) rfl rfl ?_
                            refine jd_iincN (n := 1) (ls' := [_, _, _, _, _, _, _, _, _, _]) dX4_planNow_152 rfl (Nat.le_of_ble_eq_true rfl) rfl rfl ?_
                            refine jd_goto (tgt := 55) dX4_planNow_155 (by decide) ?_
                            refine jd_lsub [some (.ref (γ 0 0)), some (.int (nI p)), some (.int (nI wh)), some (.int (81)), some (.ref (q)), some (.int (nI ((plS κ k p (g + 1)).1))), some (.int ((plS κ k p (g + 1)).2)), some (.int (nI (g + 1))), none, none] ⟨rfl, rfl, rfl, rfl, rfl, (congrArg (fun x => some (Value.int (nI x))) (by rw [hOe, hTe, hWe, hSe, hRe]; rfl)), (congrArg (fun x => some (Value.int x)) (by rw [hOe, hTe, hWe, hSe, hRe]; rfl)), rfl, trivial⟩ ?_
                            exact ih55 (g + 1) (by omega)
                          · omega
                        · exact absurd hok2 z29
                      | succ j ih88 =>
                        intro ov hov0
                        have hwo2 := Nat.mul_le_mul hwb (show ov ≤ 10 by omega)
                        have hcs := hcb (S - ov)
                        refine jd_iload dX4_planNow_88 rfl ?_
                        refine jd_iload dX4_planNow_90 rfl ?_
                        refine jd_imulN (a := Wg) (b := ov) dX4_planNow_92 ?_
                        refine jd_bipush (v := 10) dX4_planNow_93 (by decide) ?_
                        refine jd_idivN (a := (Wg * ov)) (b := 10) dX4_planNow_95 (by omega) (by omega) (by omega) ?_
                        refine jd_aload dX4_planNow_96 rfl ?_
                        refine jd_iload dX4_planNow_98 rfl ?_
                        refine jd_iconst (v := 1) dX4_planNow_100 (by decide) ?_
                        refine jd_iaddN (a := g) (b := 1) dX4_planNow_101 ?_
                        refine jd_iload_n dX4_planNow_102 rfl ?_
                        refine jd_imulN (a := (g + 1)) (b := 81) dX4_planNow_103 ?_
                        refine jd_iload dX4_planNow_104 rfl ?_
                        refine jd_iaddN (a := ((g + 1) * 81)) (b := S) dX4_planNow_106 ?_
                        refine jd_iload dX4_planNow_107 rfl ?_
                        refine jd_isubN (a := (((g + 1) * 81) + S)) (b := ov) dX4_planNow_109 (by omega) ?_
                        refine jd_iald jd_up_s dX4_planNow_110 (vp_in_nI (by omega) (by omega)) ?_
                        refine jd_top (v := .int ((flat (FF8 κ (nG κ))) (nI (((((g + 1) * 81) + S) - ov))).toNatClampNeg)) (w := .int (nI ((T (S - ov))))) (by rw [nI_clamp (by omega), FF8_row (by omega) (by omega), ← hTe]) ?_
                        refine jd_iaddN (a := ((Wg * ov) / 10)) (b := (T (S - ov))) dX4_planNow_111 ?_
                        refine jd_iload dX4_planNow_112 rfl ?_
                        refine jd_icmp_ge (tgt := 123) dX4_planNow_114 (by decide) (fun z32 => ?_) (fun z33 => ?_)
                        · exact absurd z32 (hok3 _ (by omega))
                        · refine jd_iincN (n := 1) (ls' := [_, _, _, _, _, _, _, _, _, _]) dX4_planNow_117 rfl (Nat.le_of_ble_eq_true rfl) rfl rfl ?_
                          refine jd_goto (tgt := 88) dX4_planNow_120 (by decide) ?_
                          refine jd_lsub [some (.ref (γ 0 0)), some (.int (nI p)), some (.int (nI wh)), some (.int (81)), some (.ref (q)), some (.int (nI S)), some (.int (RR)), some (.int (nI g)), some (.int (nI Wg)), some (.int (nI (ov + 1)))] ⟨rfl, rfl, rfl, rfl, rfl, rfl, rfl, rfl, rfl, rfl, trivial⟩ ?_
                          exact ih88 (ov + 1) (by omega)
                    refine jd_lsub [some (.ref (γ 0 0)), some (.int (nI p)), some (.int (nI wh)), some (.int (81)), some (.ref (q)), some (.int (nI S)), some (.int (RR)), some (.int (nI g)), some (.int (nI Wg)), some (.int (nI 0))] ⟨rfl, rfl, rfl, rfl, rfl, rfl, rfl, rfl, rfl, rfl, trivial⟩ ?_
                    exact lp88_27 (od) 0 (by omega)
              refine jd_lsub [some (.ref (γ 0 0)), some (.int (nI p)), some (.int (nI wh)), some (.int (81)), some (.ref (q)), some (.int (nI ((plS κ k p 0).1))), some (.int ((plS κ k p 0).2)), some (.int (nI 0)), none, none] ⟨rfl, rfl, rfl, rfl, rfl, rfl, rfl, rfl, trivial⟩ ?_
              exact lp55_15 (wh) 0 (by omega)
            · refine jd_drop (jd_tmp_keep hq) ?_
              refine jd_iload dX4_planNow_46 rfl ?_
              exact jd_iret dX4_planNow_48 rfl ⟨by rw [planVal, hs0, z14], rfl⟩
          · omega
        · have hno2 : ∀ i, i < k + 1 → ¬ p ≤ catM κ (nG κ) i := fun i hi hh => by rcases Nat.lt_succ_iff_lt_or_eq.mp hi with w | w; exact hno i w hh; subst w; omega
          refine jd_iincN (n := 1) (ls' := [_, _, _, _, _, _, _, _, _, _]) dX4_planNow_27 rfl (Nat.le_of_ble_eq_true rfl) rfl rfl ?_
          refine jd_goto (tgt := 12) dX4_planNow_30 (by decide) ?_
          refine jd_lsub [some (.ref (γ 0 0)), some (.int (nI p)), some (.int ((oI o))), some (.int (81)), some (.ref (q)), some (.int (nI (k + 1))), none, none, none, none] ⟨rfl, rfl, rfl, rfl, rfl, rfl, trivial⟩ ?_
          exact ih12 (k + 1) (by omega) hno2
  refine jd_lsub [some (.ref (γ 0 0)), some (.int (nI p)), some (.int ((oI o))), some (.int (81)), some (.ref (q)), some (.int (nI 0)), none, none, none, none] ⟨rfl, rfl, rfl, rfl, rfl, rfl, trivial⟩ ?_
  exact lp12_2 (81) 0 (by omega) (fun i hi => absurd hi (Nat.not_lt_zero i))
