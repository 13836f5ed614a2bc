/-! the component, plans (printed by mk_c.py) -/
set_option maxRecDepth 20000 in
set_option maxHeartbeats 2000000 in
theorem ct_X1_catches {G : jd_G} {β : ll_B} {κ : ll_K} {h : jd_H} (hw : WC G β κ h) (hI : ll_I κ)  : jd_Ct G mX1_catches 5 (10) (738) [.ref (β 0 0)] h (jd_ctb G h κ) jd_no := by
  obtain ⟨⟨hG8, hS12, hP24, hH40, hN99, hH24⟩, hIg, hIs, hIp, hIh, hIl, hIq⟩ := id hI
  obtain ⟨mcL, hlL⟩ := w_lands hw
  obtain ⟨mcG, hlG⟩ := w_gates hw
  obtain ⟨mcS, hlS⟩ := w_sleepers hw
  obtain ⟨mcP, hlP⟩ := w_parts hw
  obtain ⟨mcH, hlH⟩ := w_hidings hw
  refine jd_ct (ls := [some (.ref (β 0 0)), none, none, none, none, none, none]) rfl rfl (by decide) (Nat.le_of_ble_eq_true rfl) rfl ?_
  refine jd_bipush (v := 10) dX1_catches_0 (by decide) ?_
  refine jd_aload_n dX1_catches_2 rfl ?_
  refine jd_get in_X1 ((w_this hw)) 1 q284 dX1_catches_3 rfl (Nat.le_of_ble_eq_true rfl) rfl ?_
  refine jd_pF (n := 0) (As := []) (rest := [.int (10)]) (ct_J2_size hlG (show nG κ ≤ 900 by omega)) (jd_rv hlG 15 rfl rfl) (ci := 15) rfl (List.mem_of_getElem? (i := 2) rfl) rfl q339 q342 q344 q83 q346 q341 q345 q343 q207 ⟨by decide, by decide, by decide +kernel⟩ dX1_catches_6 rfl rfl (Nat.le_of_ble_eq_true rfl) ⟨(Nat.le_of_ble_eq_true rfl), (Nat.le_of_ble_eq_true rfl)⟩ ?_
  refine jd_imulN (a := 10) (b := nG κ) dX1_catches_11 ?_
  refine jd_istore_n (ls' := [_, _, _, _, _, _, _]) dX1_catches_12 (Nat.le_of_ble_eq_true rfl) rfl rfl ?_
  refine jd_aload_n dX1_catches_13 rfl ?_
  refine jd_get in_X1 ((w_this hw)) 1 q284 dX1_catches_14 rfl (Nat.le_of_ble_eq_true rfl) rfl ?_
  refine jd_pF (n := 0) (As := []) (rest := []) (ct_J2_size hlG (show nG κ ≤ 900 by omega)) (jd_rv hlG 15 rfl rfl) (ci := 15) rfl (List.mem_of_getElem? (i := 2) rfl) rfl q339 q342 q344 q83 q346 q341 q345 q343 q207 ⟨by decide, by decide, by decide +kernel⟩ dX1_catches_17 rfl rfl (Nat.le_of_ble_eq_true rfl) ⟨(Nat.le_of_ble_eq_true rfl), (Nat.le_of_ble_eq_true rfl)⟩ ?_
  refine jd_iconst (v := 1) dX1_catches_22 (by decide) ?_
  refine jd_iaddN (a := nG κ) (b := 1) dX1_catches_23 ?_
  refine jd_iload_n dX1_catches_24 rfl ?_
  refine jd_iconst (v := 1) dX1_catches_25 (by decide) ?_
  refine jd_iaddN (a := (10 * nG κ)) (b := 1) dX1_catches_26 ?_
  refine jd_multi (N := nG κ + 1) (L := 10 * nG κ + 1) q577 q578 q591 dX1_catches_27 (by omega) (by omega) (by omega) (by have := Nat.mul_le_mul (show nG κ + 1 ≤ 9 by omega) (show 10 * nG κ + 1 ≤ 81 by omega); omega) (fun q hq => ?_)
  refine jd_astore_n (ls' := [_, _, _, _, _, _, _]) dX1_catches_31 (Nat.le_of_ble_eq_true rfl) rfl rfl ?_
  refine jd_aload_n dX1_catches_32 rfl ?_
  refine jd_get in_X1 (jd_mat_t ((w_this hw))) 1 q284 dX1_catches_33 rfl (Nat.le_of_ble_eq_true rfl) rfl ?_
  refine jd_pF (n := 0) (As := []) (rest := []) (ct_J2_size (jd_mat_t hlG) (show nG κ ≤ 900 by omega)) (jd_rv (jd_mat_t hlG) 15 rfl rfl) (ci := 15) rfl (List.mem_of_getElem? (i := 2) rfl) rfl q339 q342 q344 q83 q346 q341 q345 q343 q207 ⟨by decide, by decide, by decide +kernel⟩ dX1_catches_36 rfl rfl (Nat.le_of_ble_eq_true rfl) ⟨(Nat.le_of_ble_eq_true rfl), (Nat.le_of_ble_eq_true rfl)⟩ ?_
  refine jd_iconst (v := 1) dX1_catches_41 (by decide) ?_
  refine jd_isub dX1_catches_42 ?_
  refine jd_istore_n (ls' := [_, _, _, _, _, _, _]) dX1_catches_43 (Nat.le_of_ble_eq_true rfl) rfl rfl ?_
  have lp44_1 : ∀ (j : Nat) (m : Nat) (hm0 : m + j = nG κ), jd_W G mX1_catches 5 (10 - (1 + (nG κ + 1))) (738 - ((nG κ + 1) + (nG κ + 1) * (10 * nG κ + 1))) 44 [some (.ref (β 0 0)), some (.int (nI ((10 * nG κ)))), some (.ref (q)), some (.int ((gI κ m))), none, none, none] [] (jd_mat G h q (nG κ + 1) (10 * nG κ + 1) (FF κ m)) (jd_ctb G h κ) jd_no := by
    intro j
    induction j with
    | zero =>
      intro m hm0
      obtain rfl : m = nG κ := by omega
      refine jd_lsub [some (.ref (β 0 0)), some (.int (nI ((10 * nG κ)))), some (.ref (q)), some (.int ((-1))), none, none, none] ⟨rfl, rfl, rfl, (congrArg (fun x => some (Value.int x)) gI_z), trivial⟩ ?_
      refine jd_iload_n dX1_catches_44 rfl ?_
      refine jd_if_lt (tgt := 146) dX1_catches_45 (by decide) (fun z2 => ?_) (fun z3 => ?_)
      · refine jd_aload_n dX1_catches_146 rfl ?_
        exact jd_aret dX1_catches_147 (Or.inr ⟨_, rfl⟩) ⟨q, hq, rfl, rfl⟩
      · exact absurd (by decide) z3
    | succ j ih44 =>
      intro m hm0
      refine jd_lsub [some (.ref (β 0 0)), some (.int (nI ((10 * nG κ)))), some (.ref (q)), some (.int (nI ((nG κ - 1 - m)))), none, none, none] ⟨rfl, rfl, rfl, (congrArg (fun x => some (Value.int x)) (if_pos (by omega))), trivial⟩ ?_
      refine jd_iload_n dX1_catches_44 rfl ?_
      refine jd_nif_lt (a := (nG κ - 1 - m)) (tgt := 146) dX1_catches_45 (by decide) (by omega) ?_
      refine jd_aload_n dX1_catches_48 rfl ?_
      refine jd_aload_n dX1_catches_49 rfl ?_
      refine jd_get in_X1 (jd_mat_t ((w_this hw))) 1 q284 dX1_catches_50 rfl (Nat.le_of_ble_eq_true rfl) rfl ?_
      refine jd_iload_n dX1_catches_53 rfl ?_
      refine jd_pF (n := 1) (As := [.int (nI ((nG κ - 1 - m)))]) (rest := [.ref (β 0 0)]) (ct_J2_get (jd_mat_t hlG) (show nG κ ≤ 900 by omega) (k := (nG κ - 1 - m)) (show (nG κ - 1 - m) < nG κ by omega)) (jd_rv (jd_mat_t hlG) 15 rfl rfl) (ci := 15) rfl (List.mem_of_getElem? (i := 1) rfl) rfl q320 q323 q325 q83 q327 q322 q326 q324 q207 ⟨by decide, by decide, by decide +kernel⟩ dX1_catches_54 rfl rfl (Nat.le_of_ble_eq_true rfl) ⟨(Nat.le_of_ble_eq_true rfl), (Nat.le_of_ble_eq_true rfl)⟩ ?_
      refine jd_castS (jd_rv (jd_mat_t (((w_gate hw)) ((nG κ - 1 - m)) (show (nG κ - 1 - m) < nG κ by omega))) 3 rfl rfl) (ci := 3) rfl q347 dX1_catches_59 ?_
      refine jd_pV (As := [.ref (β 2 ((nG κ - 1 - m)))]) (rest := []) (ct_X1_hiddenWorth (WC.mat hw hq) hI (nG κ - 1 - m) (by omega)) (jd_rv (jd_mat_t ((w_this hw))) 0 rfl rfl) rfl q474 q476 qs18 q80 q477 nX1_hiddenWorth dX1_catches_62 rfl rfl rfl (Nat.le_of_ble_eq_true rfl) ⟨(Nat.le_of_ble_eq_true rfl), (Nat.le_of_ble_eq_true rfl)⟩ ?_
      have hge : nG κ - 1 - m = nG κ - (m + 1) := by omega
      have hwb := (hw_is hI (g := nG κ - (m + 1)) (by omega)).2
      refine jd_top (w := .int (nI (hwN κ (nG κ - (m + 1))))) (congrArg Value.int (by rw [hge]; exact (hw_is hI (by omega)).1)) ?_
      refine jd_istore (ls' := [_, _, _, _, _, _, _]) dX1_catches_65 (Nat.le_of_ble_eq_true rfl) rfl rfl ?_
      refine jd_iconst (v := 0) dX1_catches_67 (by decide) ?_
      refine jd_istore (ls' := [_, _, _, _, _, _, _]) dX1_catches_68 (Nat.le_of_ble_eq_true rfl) rfl rfl ?_
      have lp70_4 : ∀ (j : Nat) (s : Nat) (hs0 : s + j = (10 * nG κ + 1)), jd_W G mX1_catches 5 (10 - (1 + (nG κ + 1))) (738 - ((nG κ + 1) + (nG κ + 1) * (10 * nG κ + 1))) 70 [some (.ref (β 0 0)), some (.int (nI ((10 * nG κ)))), some (.ref (q)), some (.int (nI ((nG κ - 1 - m)))), some (.int (nI ((hwN κ (nG κ - (m + 1)))))), some (.int (nI s)), none] [] (jd_mat G h q (nG κ + 1) (10 * nG κ + 1) (FG κ m s 0)) (jd_ctb G h κ) jd_no := by
        intro j
        induction j with
        | zero =>
          intro s hs0
          obtain rfl : s = (10 * nG κ + 1) := by omega
          refine jd_iload dX1_catches_70 rfl ?_
          refine jd_iload_n dX1_catches_72 rfl ?_
          refine jd_ncmp_gt (a := (10 * nG κ + 1)) (b := (10 * nG κ)) (tgt := 140) dX1_catches_73 (by decide) (by omega) (by omega) (fun z5 => ?_) (fun z6 => ?_)
          · refine jd_iinc (v := (nI ((nG κ - 1 - m)) + (-1))) (ls' := [_, _, _, _, _, _, _]) dX1_catches_140 rfl (by first | rfl | decide) (Nat.le_of_ble_eq_true rfl) rfl rfl ?_
            refine jd_goto (tgt := 44) dX1_catches_143 (by decide) ?_
            refine jd_heq (h' := (jd_mat G h q (nG κ + 1) (10 * nG κ + 1) (FF κ (m + 1)))) (congrArg (jd_mat G h q (nG κ + 1) (10 * nG κ + 1)) ((FG_L (by omega)).symm)) ?_
            refine jd_lsub [some (.ref (β 0 0)), some (.int (nI ((10 * nG κ)))), some (.ref (q)), some (.int ((gI κ (m + 1)))), none, none, none] ⟨rfl, rfl, rfl, (congrArg (fun x => some (Value.int x)) (gI_s (by omega) hG8)), trivial⟩ ?_
            exact ih44 (m + 1) (by omega)
          · omega
        | succ j ih70 =>
          intro s hs0
          refine jd_iload dX1_catches_70 rfl ?_
          refine jd_iload_n dX1_catches_72 rfl ?_
          refine jd_ncmp_gt (a := s) (b := (10 * nG κ)) (tgt := 140) dX1_catches_73 (by decide) (by omega) (by omega) (fun z7 => ?_) (fun z8 => ?_)
          · omega
          · refine jd_iconst (v := 0) dX1_catches_76 (by decide) ?_
            refine jd_istore (ls' := [_, _, _, _, _, _, _]) dX1_catches_77 (Nat.le_of_ble_eq_true rfl) rfl rfl ?_
            have lp79_9 : ∀ (j : Nat) (o : Nat) (ho0 : o + j = (min 10 s + 1)), jd_W G mX1_catches 5 (10 - (1 + (nG κ + 1))) (738 - ((nG κ + 1) + (nG κ + 1) * (10 * nG κ + 1))) 79 [some (.ref (β 0 0)), some (.int (nI ((10 * nG κ)))), some (.ref (q)), some (.int (nI ((nG κ - 1 - m)))), some (.int (nI ((hwN κ (nG κ - (m + 1)))))), some (.int (nI s)), some (.int (nI o))] [] (jd_mat G h q (nG κ + 1) (10 * nG κ + 1) (FG κ m s o)) (jd_ctb G h κ) jd_no := by
              intro j
              induction j with
              | zero =>
                intro o ho0
                obtain rfl : o = (min 10 s + 1) := by omega
                refine jd_iload dX1_catches_79 rfl ?_
                refine jd_bipush (v := 10) dX1_catches_81 (by decide) ?_
                refine jd_ncmp_gt (a := (min 10 s + 1)) (b := 10) (tgt := 134) dX1_catches_83 (by decide) (by omega) (by omega) (fun z10 => ?_) (fun z11 => ?_)
                · refine jd_iincN (n := 1) (ls' := [_, _, _, _, _, _, _]) dX1_catches_134 rfl (Nat.le_of_ble_eq_true rfl) rfl rfl ?_
                  refine jd_goto (tgt := 70) dX1_catches_137 (by decide) ?_
                  refine jd_heq (h' := (jd_mat G h q (nG κ + 1) (10 * nG κ + 1) (FG κ m (s + 1) 0))) (congrArg (jd_mat G h q (nG κ + 1) (10 * nG κ + 1)) (FG_s.symm)) ?_
                  refine jd_lsub [some (.ref (β 0 0)), some (.int (nI ((10 * nG κ)))), some (.ref (q)), some (.int (nI ((nG κ - 1 - m)))), some (.int (nI ((hwN κ (nG κ - (m + 1)))))), some (.int (nI (s + 1))), none] ⟨rfl, rfl, rfl, rfl, rfl, rfl, trivial⟩ ?_
                  exact ih70 (s + 1) (by omega)
                · refine jd_iload dX1_catches_86 rfl ?_
                  refine jd_iload dX1_catches_88 rfl ?_
                  refine jd_ncmp_gt (a := (min 10 s + 1)) (b := s) (tgt := 134) dX1_catches_90 (by decide) (by omega) (by omega) (fun z12 => ?_) (fun z13 => ?_)
                  · refine jd_iincN (n := 1) (ls' := [_, _, _, _, _, _, _]) dX1_catches_134 rfl (Nat.le_of_ble_eq_true rfl) rfl rfl ?_
                    refine jd_goto (tgt := 70) dX1_catches_137 (by decide) ?_
                    refine jd_heq (h' := (jd_mat G h q (nG κ + 1) (10 * nG κ + 1) (FG κ m (s + 1) 0))) (congrArg (jd_mat G h q (nG κ + 1) (10 * nG κ + 1)) (FG_s.symm)) ?_
                    refine jd_lsub [some (.ref (β 0 0)), some (.int (nI ((10 * nG κ)))), some (.ref (q)), some (.int (nI ((nG κ - 1 - m)))), some (.int (nI ((hwN κ (nG κ - (m + 1)))))), some (.int (nI (s + 1))), none] ⟨rfl, rfl, rfl, rfl, rfl, rfl, trivial⟩ ?_
                    exact ih70 (s + 1) (by omega)
                  · omega
              | succ j ih79 =>
                intro o ho0
                have hwo : hwN κ (nG κ - (m + 1)) * o ≤ 28512 * 10 := Nat.mul_le_mul hwb (by omega)
                have hcb := catM_bd hI m (by omega) (s - o)
                have hmb := mxO_bd (s := s) (T := catM κ m) hwb (catM_bd hI m (by omega)) o (by omega)
                refine jd_iload dX1_catches_79 rfl ?_
                refine jd_bipush (v := 10) dX1_catches_81 (by decide) ?_
                refine jd_ncmp_gt (a := o) (b := 10) (tgt := 134) dX1_catches_83 (by decide) (by omega) (by omega) (fun z14 => ?_) (fun z15 => ?_)
                · omega
                · refine jd_iload dX1_catches_86 rfl ?_
                  refine jd_iload dX1_catches_88 rfl ?_
                  refine jd_ncmp_gt (a := o) (b := s) (tgt := 134) dX1_catches_90 (by decide) (by omega) (by omega) (fun z16 => ?_) (fun z17 => ?_)
                  · omega
                  · refine jd_aload_n dX1_catches_93 rfl ?_
                    refine jd_iload_n dX1_catches_94 rfl ?_
                    refine jd_aaldI (y := (q + 1 + ((nG κ - 1 - m)))) jd_mat_0 dX1_catches_95 (vp_in_nI (by omega) (by omega)) (by rw [nI_clamp (by omega)]) ?_
                    refine jd_iload dX1_catches_96 rfl ?_
                    refine jd_aload_n dX1_catches_98 rfl ?_
                    refine jd_iload_n dX1_catches_99 rfl ?_
                    refine jd_aaldI (y := (q + 1 + ((nG κ - 1 - m)))) jd_mat_0 dX1_catches_100 (vp_in_nI (by omega) (by omega)) (by rw [nI_clamp (by omega)]) ?_
                    refine jd_iload dX1_catches_101 rfl ?_
                    refine jd_iald (jd_mat_k (k := nG κ - 1 - m) (by omega)) dX1_catches_103 (vp_in_nI (by omega) (by omega)) ?_
                    refine jd_top (v := .int (((FG κ m s o) (nG κ - 1 - m)) (nI (s)).toNatClampNeg)) (w := .int (nI ((mxO (hwN κ (nG κ - (m + 1))) (catM κ m) s o)))) (by rw [nI_clamp (by omega), FG_cur]) ?_
                    refine jd_iload dX1_catches_104 rfl ?_
                    refine jd_iload dX1_catches_106 rfl ?_
                    refine jd_imulN (a := (hwN κ (nG κ - (m + 1)))) (b := o) dX1_catches_108 ?_
                    refine jd_bipush (v := 10) dX1_catches_109 (by decide) ?_
                    refine jd_idivN (a := ((hwN κ (nG κ - (m + 1))) * o)) (b := 10) dX1_catches_111 (by omega) (by omega) (by omega) ?_
                    refine jd_aload_n dX1_catches_112 rfl ?_
                    refine jd_iload_n dX1_catches_113 rfl ?_
                    refine jd_iconst (v := 1) dX1_catches_114 (by decide) ?_
                    refine jd_iaddN (a := (nG κ - 1 - m)) (b := 1) dX1_catches_115 ?_
                    refine jd_aaldI (y := (q + 1 + (((nG κ - 1 - m) + 1)))) jd_mat_0 dX1_catches_116 (vp_in_nI (by omega) (by omega)) (by rw [nI_clamp (by omega)]) ?_
                    refine jd_iload dX1_catches_117 rfl ?_
                    refine jd_iload dX1_catches_119 rfl ?_
                    refine jd_isubN (a := s) (b := o) dX1_catches_121 (by omega) ?_
                    refine jd_iald (jd_mat_k (k := (nG κ - 1 - m) + 1) (by omega)) dX1_catches_122 (vp_in_nI (by omega) (by omega)) ?_
                    refine jd_top (v := .int (((FG κ m s o) ((nG κ - 1 - m) + 1)) (nI ((s - o))).toNatClampNeg)) (w := .int (nI ((catM κ m ((s - o)))))) (by rw [nI_clamp (by omega), FG_nxt (by omega) (by omega)]) ?_
                    refine jd_iaddN (a := (((hwN κ (nG κ - (m + 1))) * o) / 10)) (b := (catM κ m ((s - o)))) dX1_catches_123 ?_
                    refine jd_mmax q579 q229 q87 q230 dX1_catches_124 (Nat.le_of_ble_eq_true rfl) (Nat.le_of_ble_eq_true rfl) ?_
                    refine jd_top (congrArg Value.int (jd_maxN (by omega) (by omega) : _ = nI (max ((mxO (hwN κ (nG κ - (m + 1))) (catM κ m) s o)) (((((hwN κ (nG κ - (m + 1))) * o) / 10) + (catM κ m ((s - o)))))))) ?_
                    refine jd_iast (jd_mat_k (k := nG κ - 1 - m) (by omega)) dX1_catches_127 (vp_in_nI (by omega) (by omega)) ?_
                    refine jd_heq (h' := (jd_mat G h q (nG κ + 1) (10 * nG κ + 1) (FG κ m s (o + 1)))) (by rw [nI_clamp (by omega), jd_mat_up (by omega)]; exact congrArg (jd_mat G h q (nG κ + 1) (10 * nG κ + 1)) (FG_o rfl).symm) ?_
                    refine jd_iincN (n := 1) (ls' := [_, _, _, _, _, _, _]) dX1_catches_128 rfl (Nat.le_of_ble_eq_true rfl) rfl rfl ?_
                    refine jd_goto (tgt := 79) dX1_catches_131 (by decide) ?_
                    refine jd_lsub [some (.ref (β 0 0)), some (.int (nI ((10 * nG κ)))), some (.ref (q)), some (.int (nI ((nG κ - 1 - m)))), some (.int (nI ((hwN κ (nG κ - (m + 1)))))), some (.int (nI s)), some (.int (nI (o + 1)))] ⟨rfl, rfl, rfl, rfl, rfl, rfl, rfl, trivial⟩ ?_
                    exact ih79 (o + 1) (by omega)
            refine jd_lsub [some (.ref (β 0 0)), some (.int (nI ((10 * nG κ)))), some (.ref (q)), some (.int (nI ((nG κ - 1 - m)))), some (.int (nI ((hwN κ (nG κ - (m + 1)))))), some (.int (nI s)), some (.int (nI 0))] ⟨rfl, rfl, rfl, rfl, rfl, rfl, rfl, trivial⟩ ?_
            exact lp79_9 ((min 10 s + 1)) 0 (by omega)
      refine jd_heq (h' := (jd_mat G h q (nG κ + 1) (10 * nG κ + 1) (FG κ m 0 0))) (congrArg (jd_mat G h q (nG κ + 1) (10 * nG κ + 1)) (FG_0 (by omega))) ?_
      refine jd_lsub [some (.ref (β 0 0)), some (.int (nI ((10 * nG κ)))), some (.ref (q)), some (.int (nI ((nG κ - 1 - m)))), some (.int (nI ((hwN κ (nG κ - (m + 1)))))), some (.int (nI 0)), none] ⟨rfl, rfl, rfl, rfl, rfl, rfl, trivial⟩ ?_
      exact lp70_4 ((10 * nG κ + 1)) 0 (by omega)
  refine jd_heq (h' := (jd_mat G h q (nG κ + 1) (10 * nG κ + 1) (FF κ 0))) (congrArg (jd_mat G h q (nG κ + 1) (10 * nG κ + 1)) (FF_0)) ?_
  refine jd_lsub [some (.ref (β 0 0)), some (.int (nI ((10 * nG κ)))), some (.ref (q)), some (.int ((gI κ 0))), none, none, none] ⟨rfl, rfl, rfl, (congrArg (fun x => some (Value.int x)) (gI_0 hG8)), trivial⟩ ?_
  exact lp44_1 (nG κ) 0 (by omega)

set_option maxRecDepth 20000 in
set_option maxHeartbeats 2000000 in
theorem ct_X1_leastSum {G : jd_G} {h : jd_H} {i : jd_Id} {a n p : Nat} {F : Nat → Int32} {T : Nat → Nat} (ho : h i = some (a, jd_ia G n F)) (hn : n ≤ 1000) (hF : ∀ s, s < n → F s = nI (T s)) (hT : ∀ s, s < n → T s < 2 ^ 31) (hp : p < 2 ^ 31) : jd_Ct G mX1_leastSum 0 (0) (0) [.ref (a), .int (nI p)] h (jd_pu h (.int (oI (leastS T p n)))) jd_no := by
  refine jd_ct (ls := [some (.ref (a)), some (.int (nI p)), none]) rfl rfl (by decide) (Nat.le_of_ble_eq_true rfl) rfl ?_
  refine jd_iconst (v := 0) dX1_leastSum_0 (by decide) ?_
  refine jd_istore_n (ls' := [_, _, _]) dX1_leastSum_1 (Nat.le_of_ble_eq_true rfl) rfl rfl ?_
  have lp2_1 : ∀ (j : Nat) (k : Nat) (hk0 : k + j = n) (hno : ∀ i, i < k → ¬ p ≤ T i), jd_W G mX1_leastSum 0 (0) (0) 2 [some (.ref (a)), some (.int (nI p)), some (.int (nI k))] [] h (jd_pu h (.int (oI (leastS T p n)))) jd_no := by
    intro j
    induction j with
    | zero =>
      intro k hk0 hno
      have hke : k = n := by omega
      rw [hke]
      refine jd_iload_n dX1_leastSum_2 rfl ?_
      refine jd_aload_n dX1_leastSum_3 rfl ?_
      refine jd_alen ho dX1_leastSum_4 0 rfl ?_
      refine jd_ncmp_ge (a := n) (b := n) (tgt := 23) dX1_leastSum_5 (by decide) (by omega) (by omega) (fun z2 => ?_) (fun z3 => ?_)
      · refine jd_iconst (v := (-1)) dX1_leastSum_23 (by decide) ?_
        exact jd_iret dX1_leastSum_24 rfl ⟨by rw [leastS, ll_find_none (hke ▸ hno)]; rfl, rfl⟩
      · omega
    | succ j ih2 =>
      intro k hk0 hno
      have hT1 := hT k (by omega)
      refine jd_iload_n dX1_leastSum_2 rfl ?_
      refine jd_aload_n dX1_leastSum_3 rfl ?_
      refine jd_alen ho dX1_leastSum_4 0 rfl ?_
      refine jd_ncmp_ge (a := k) (b := n) (tgt := 23) dX1_leastSum_5 (by decide) (by omega) (by omega) (fun z4 => ?_) (fun z5 => ?_)
      · omega
      · refine jd_aload_n dX1_leastSum_8 rfl ?_
        refine jd_iload_n dX1_leastSum_9 rfl ?_
        refine jd_iald ho dX1_leastSum_10 (vp_in_nI (by omega) (by omega)) ?_
        refine jd_top (v := .int (F (nI (k)).toNatClampNeg)) (w := .int (nI ((T k)))) (by rw [nI_clamp (by omega), hF _ (by omega)]) ?_
        refine jd_iload_n dX1_leastSum_11 rfl ?_
        refine jd_ncmp_lt (a := (T k)) (b := p) (tgt := 17) dX1_leastSum_12 (by decide) (by omega) (by omega) (fun z6 => ?_) (fun z7 => ?_)
        · have hno2 : ∀ i, i < k + 1 → ¬ p ≤ T i := fun i hi hh => by rcases Nat.lt_succ_iff_lt_or_eq.mp hi with w | w; exact hno i w hh; subst w; omega
          refine jd_iincN (n := 1) (ls' := [_, _, _]) dX1_leastSum_17 rfl (Nat.le_of_ble_eq_true rfl) rfl rfl ?_
          refine jd_goto (tgt := 2) dX1_leastSum_20 (by decide) ?_
          refine jd_lsub [some (.ref (a)), some (.int (nI p)), some (.int (nI (k + 1)))] ⟨rfl, rfl, rfl, trivial⟩ ?_
          exact ih2 (k + 1) (by omega) hno2
        · refine jd_iload_n dX1_leastSum_15 rfl ?_
          exact jd_iret dX1_leastSum_16 rfl ⟨by rw [leastS, ll_find_some (k := k) (by omega) (by omega) hno]; rfl, rfl⟩
  refine jd_lsub [some (.ref (a)), some (.int (nI p)), some (.int (nI 0))] ⟨rfl, rfl, rfl, trivial⟩ ?_
  exact lp2_1 (n) 0 (by omega) (fun i hi => absurd hi (Nat.not_lt_zero i))

set_option maxRecDepth 20000 in
set_option maxHeartbeats 2000000 in
theorem ct_X1_oddsOf {G : jd_G} {β : ll_B} {κ : ll_K} {h : jd_H} (hw : WC G β κ h) (hI : ll_I κ) {q : Nat} (hq : ∀ j, j < nG κ + 1 + 1 → h (0, q + j) = none) (g s : Nat) (l : Int32) (hg : g < nG κ) (hs : s ≤ 10 * nG κ) (hl : l ≤ nI (catM κ (nG κ - g) s)) : jd_Ct G mX1_oddsOf 5 (0) (0) [.ref (β 0 0), .ref (q), .int (nI g), .int (nI s), .int (l)] (jd_mat G h q (nG κ + 1) (10 * nG κ + 1) (FF κ (nG κ))) (jd_pu (jd_mat G h q (nG κ + 1) (10 * nG κ + 1) (FF κ (nG κ))) (.int (nI (oddsI (hwN κ g) (catM κ (nG κ - (g + 1))) s l)))) jd_no := by
  obtain ⟨⟨hG8, hS12, hP24, hH40, hN99, hH24⟩, hIg, hIs, hIp, hIh, hIl, hIq⟩ := id hI
  obtain ⟨mcL, hlL⟩ := w_lands hw
  obtain ⟨mcG, hlG⟩ := w_gates hw
  obtain ⟨mcS, hlS⟩ := w_sleepers hw
  obtain ⟨mcP, hlP⟩ := w_parts hw
  obtain ⟨mcH, hlH⟩ := w_hidings hw
  have hwb := (hw_is hI hg).2
  have hcb := fun x => catM_bd hI (nG κ - (g + 1)) (by omega) x
  rw [catM_s hg] at hl
  have hok := odds_ok (by have := hcb (s - 0); omega) hl
  have hwo2 := Nat.mul_le_mul hwb (show oddsI (hwN κ g) (catM κ (nG κ - (g + 1))) s l ≤ 10 by omega)
  have hcs2 := hcb (s - oddsI (hwN κ g) (catM κ (nG κ - (g + 1))) s l)
  refine jd_ct (ls := [some (.ref (β 0 0)), some (.ref (q)), some (.int (nI g)), some (.int (nI s)), some (.int (l)), none, none]) rfl rfl (by decide) (Nat.le_of_ble_eq_true rfl) rfl ?_
  refine jd_aload_n dX1_oddsOf_0 rfl ?_
  refine jd_aload_n dX1_oddsOf_1 rfl ?_
  refine jd_get in_X1 (jd_mat_t ((w_this hw))) 1 q284 dX1_oddsOf_2 rfl (Nat.le_of_ble_eq_true rfl) rfl ?_
  refine jd_iload_n dX1_oddsOf_5 rfl ?_
  refine jd_pF (n := 1) (As := [.int (nI g)]) (rest := [.ref (β 0 0)]) (ct_J2_get (jd_mat_t hlG) (show nG κ ≤ 900 by omega) (k := g) (show g < nG κ by omega)) (jd_rv (jd_mat_t hlG) 15 rfl rfl) (ci := 15) rfl (List.mem_of_getElem? (i := 1) rfl) rfl q320 q323 q325 q83 q327 q322 q326 q324 q207 ⟨by decide, by decide, by decide +kernel⟩ dX1_oddsOf_6 rfl rfl (Nat.le_of_ble_eq_true rfl) ⟨(Nat.le_of_ble_eq_true rfl), (Nat.le_of_ble_eq_true rfl)⟩ ?_
  refine jd_castS (jd_rv (jd_mat_t (((w_gate hw)) g (show g < nG κ by omega))) 3 rfl rfl) (ci := 3) rfl q347 dX1_oddsOf_11 ?_
  refine jd_pV (As := [.ref (β 2 g)]) (rest := []) (ct_X1_hiddenWorth (WC.mat hw hq) hI (g) (by omega)) (jd_rv (jd_mat_t ((w_this hw))) 0 rfl rfl) rfl q474 q476 qs18 q80 q477 nX1_hiddenWorth dX1_oddsOf_14 rfl rfl rfl (Nat.le_of_ble_eq_true rfl) ⟨(Nat.le_of_ble_eq_true rfl), (Nat.le_of_ble_eq_true rfl)⟩ ?_
  refine jd_top (w := .int (nI (hwN κ g))) (congrArg Value.int (hw_is hI hg).1) ?_
  refine jd_istore (ls' := [_, _, _, _, _, _, _]) dX1_oddsOf_17 (Nat.le_of_ble_eq_true rfl) rfl rfl ?_
  refine jd_iconst (v := 0) dX1_oddsOf_19 (by decide) ?_
  refine jd_istore (ls' := [_, _, _, _, _, _, _]) dX1_oddsOf_20 (Nat.le_of_ble_eq_true rfl) rfl rfl ?_
  have lp22_1 : ∀ (j : Nat) (o : Nat) (ho0 : o + j = (oddsI (hwN κ g) (catM κ (nG κ - (g + 1))) s l)), jd_W G mX1_oddsOf 5 (0) (0) 22 [some (.ref (β 0 0)), some (.ref (q)), some (.int (nI g)), some (.int (nI s)), some (.int (l)), some (.int (nI ((hwN κ g)))), some (.int (nI o))] [] (jd_mat G h q (nG κ + 1) (10 * nG κ + 1) (FF κ (nG κ))) (jd_pu (jd_mat G h q (nG κ + 1) (10 * nG κ + 1) (FF κ (nG κ))) (.int (nI (oddsI (hwN κ g) (catM κ (nG κ - (g + 1))) s l)))) jd_no := by
    intro j
    induction j with
    | zero =>
      intro o ho0
      obtain rfl : o = (oddsI (hwN κ g) (catM κ (nG κ - (g + 1))) s l) := by omega
      refine jd_iload dX1_oddsOf_22 rfl ?_
      refine jd_iload dX1_oddsOf_24 rfl ?_
      refine jd_imulN (a := (hwN κ g)) (b := (oddsI (hwN κ g) (catM κ (nG κ - (g + 1))) s l)) dX1_oddsOf_26 ?_
      refine jd_bipush (v := 10) dX1_oddsOf_27 (by decide) ?_
      refine jd_idivN (a := ((hwN κ g) * (oddsI (hwN κ g) (catM κ (nG κ - (g + 1))) s l))) (b := 10) dX1_oddsOf_29 (by omega) (by omega) (by omega) ?_
      refine jd_aload_n dX1_oddsOf_30 rfl ?_
      refine jd_iload_n dX1_oddsOf_31 rfl ?_
      refine jd_iconst (v := 1) dX1_oddsOf_32 (by decide) ?_
      refine jd_iaddN (a := g) (b := 1) dX1_oddsOf_33 ?_
      refine jd_aaldI (y := (q + 1 + ((g + 1)))) jd_mat_0 dX1_oddsOf_34 (vp_in_nI (by omega) (by omega)) (by rw [nI_clamp (by omega)]) ?_
      refine jd_iload_n dX1_oddsOf_35 rfl ?_
      refine jd_iload dX1_oddsOf_36 rfl ?_
      refine jd_isubN (a := s) (b := (oddsI (hwN κ g) (catM κ (nG κ - (g + 1))) s l)) dX1_oddsOf_38 (by omega) ?_
      refine jd_iald (jd_mat_k (k := g + 1) (by omega)) dX1_oddsOf_39 (vp_in_nI (by omega) (by omega)) ?_
      refine jd_top (v := .int (((FF κ (nG κ)) (g + 1)) (nI ((s - (oddsI (hwN κ g) (catM κ (nG κ - (g + 1))) s l)))).toNatClampNeg)) (w := .int (nI ((catM κ (nG κ - (g + 1)) ((s - (oddsI (hwN κ g) (catM κ (nG κ - (g + 1))) s l))))))) (by rw [nI_clamp (by omega), FF_at (by omega)]) ?_
      refine jd_iaddN (a := (((hwN κ g) * (oddsI (hwN κ g) (catM κ (nG κ - (g + 1))) s l)) / 10)) (b := (catM κ (nG κ - (g + 1)) ((s - (oddsI (hwN κ g) (catM κ (nG κ - (g + 1))) s l))))) dX1_oddsOf_40 ?_
      refine jd_iload dX1_oddsOf_41 rfl ?_
      refine jd_icmp_ge (tgt := 52) dX1_oddsOf_43 (by decide) (fun z2 => ?_) (fun z3 => ?_)
      · refine jd_iload dX1_oddsOf_52 rfl ?_
        exact jd_iret dX1_oddsOf_54 rfl ⟨rfl, rfl⟩
      · exact absurd hok.2.1 z3
    | succ j ih22 =>
      intro o ho0
      have hwo := Nat.mul_le_mul hwb (show o ≤ 10 by omega)
      have hcs := hcb (s - o)
      refine jd_iload dX1_oddsOf_22 rfl ?_
      refine jd_iload dX1_oddsOf_24 rfl ?_
      refine jd_imulN (a := (hwN κ g)) (b := o) dX1_oddsOf_26 ?_
      refine jd_bipush (v := 10) dX1_oddsOf_27 (by decide) ?_
      refine jd_idivN (a := ((hwN κ g) * o)) (b := 10) dX1_oddsOf_29 (by omega) (by omega) (by omega) ?_
      refine jd_aload_n dX1_oddsOf_30 rfl ?_
      refine jd_iload_n dX1_oddsOf_31 rfl ?_
      refine jd_iconst (v := 1) dX1_oddsOf_32 (by decide) ?_
      refine jd_iaddN (a := g) (b := 1) dX1_oddsOf_33 ?_
      refine jd_aaldI (y := (q + 1 + ((g + 1)))) jd_mat_0 dX1_oddsOf_34 (vp_in_nI (by omega) (by omega)) (by rw [nI_clamp (by omega)]) ?_
      refine jd_iload_n dX1_oddsOf_35 rfl ?_
      refine jd_iload dX1_oddsOf_36 rfl ?_
      refine jd_isubN (a := s) (b := o) dX1_oddsOf_38 (by omega) ?_
      refine jd_iald (jd_mat_k (k := g + 1) (by omega)) dX1_oddsOf_39 (vp_in_nI (by omega) (by omega)) ?_
      refine jd_top (v := .int (((FF κ (nG κ)) (g + 1)) (nI ((s - o))).toNatClampNeg)) (w := .int (nI ((catM κ (nG κ - (g + 1)) ((s - o)))))) (by rw [nI_clamp (by omega), FF_at (by omega)]) ?_
      refine jd_iaddN (a := (((hwN κ g) * o) / 10)) (b := (catM κ (nG κ - (g + 1)) ((s - o)))) dX1_oddsOf_40 ?_
      refine jd_iload dX1_oddsOf_41 rfl ?_
      refine jd_icmp_ge (tgt := 52) dX1_oddsOf_43 (by decide) (fun z4 => ?_) (fun z5 => ?_)
      · exact absurd z4 (hok.2.2 _ (by omega))
      · refine jd_iincN (n := 1) (ls' := [_, _, _, _, _, _, _]) dX1_oddsOf_46 rfl (Nat.le_of_ble_eq_true rfl) rfl rfl ?_
        refine jd_goto (tgt := 22) dX1_oddsOf_49 (by decide) ?_
        refine jd_lsub [some (.ref (β 0 0)), some (.ref (q)), some (.int (nI g)), some (.int (nI s)), some (.int (l)), some (.int (nI ((hwN κ g)))), some (.int (nI (o + 1)))] ⟨rfl, rfl, rfl, rfl, rfl, rfl, rfl, trivial⟩ ?_
        exact ih22 (o + 1) (by omega)
  refine jd_lsub [some (.ref (β 0 0)), some (.ref (q)), some (.int (nI g)), some (.int (nI s)), some (.int (l)), some (.int (nI ((hwN κ g)))), some (.int (nI 0))] ⟨rfl, rfl, rfl, rfl, rfl, rfl, rfl, trivial⟩ ?_
  exact lp22_1 ((oddsI (hwN κ g) (catM κ (nG κ - (g + 1))) s l)) 0 (by omega)

set_option maxRecDepth 20000 in
set_option maxHeartbeats 2000000 in
theorem ct_X1_planned {G : jd_G} {β : ll_B} {κ : ll_K} {h : jd_H} (hw : WC G β κ h) (hI : ll_I κ) {q : Nat} (hq : ∀ j, j < nG κ + 1 + 1 → h (0, q + j) = none) (p s0 wh : Nat) (hp : p ≤ 2000) (hs0 : leastS (catM κ (nG κ)) p (10 * nG κ + 1) = some s0) (hwh : wh < nG κ) : jd_Ct G mX1_planned 6 (0) (0) [.ref (β 0 0), .ref (q), .int (nI p), .int (nI wh)] (jd_mat G h q (nG κ + 1) (10 * nG κ + 1) (FF κ (nG κ))) (jd_pu (jd_mat G h q (nG κ + 1) (10 * nG κ + 1) (FF κ (nG κ))) (.int (nI (plO κ s0 p wh)))) jd_no := by
  obtain ⟨⟨hG8, hS12, hP24, hH40, hN99, hH24⟩, hIg, hIs, hIp, hIh, hIl, hIq⟩ := id hI
  obtain ⟨mcL, hlL⟩ := w_lands hw
  obtain ⟨mcG, hlG⟩ := w_gates hw
  obtain ⟨mcS, hlS⟩ := w_sleepers hw
  obtain ⟨mcP, hlP⟩ := w_parts hw
  obtain ⟨mcH, hlH⟩ := w_hidings hw
  have hs8 : s0 ≤ 80 := by have := ll_find_lt hs0; omega
  have hsb : s0 ≤ 10 * nG κ := by have := ll_find_lt hs0; omega
  have hp0 : p ≤ catM κ (nG κ) s0 := ll_find_P (P := fun s => p ≤ catM κ (nG κ) s) hs0
  refine jd_ct (ls := [some (.ref (β 0 0)), some (.ref (q)), some (.int (nI p)), some (.int (nI wh)), none, none, none, none]) rfl rfl (by decide) (Nat.le_of_ble_eq_true rfl) rfl ?_
  refine jd_aload_n dX1_planned_0 rfl ?_
  refine jd_iconst (v := 0) dX1_planned_1 (by decide) ?_
  refine jd_top (w := .int (nI 0)) rfl ?_
  refine jd_aaldI (y := (q + 1 + 0)) jd_mat_0 dX1_planned_2 (vp_in_nI (by omega) (by omega)) (by rw [nI_clamp (by omega)]) ?_
  refine jd_iload_n dX1_planned_3 rfl ?_
  refine jd_pS (As := [.ref ((q + 1 + 0)), .int (nI p)]) (rest := []) (ct_X1_leastSum (n := 10 * nG κ + 1) (p := p) (T := catM κ (nG κ)) (jd_mat_k (k := 0) (by omega)) (by omega) (fun s hs => FF_at hs) (fun s hs => by have := catM_bd hI (nG κ) (Nat.le_refl _) s; omega) (by omega)) rfl q580 q581 q80 q582 nX1_leastSum dX1_planned_4 rfl rfl (Nat.le_of_ble_eq_true rfl) ⟨(Nat.le_of_ble_eq_true rfl), (Nat.le_of_ble_eq_true rfl)⟩ ?_
  refine jd_top (w := .int (nI s0)) (congrArg Value.int (by rw [hs0]; rfl)) ?_
  refine jd_istore (ls' := [_, _, _, _, _, _, _, _]) dX1_planned_7 (Nat.le_of_ble_eq_true rfl) rfl rfl ?_
  refine jd_iload_n dX1_planned_9 rfl ?_
  refine jd_istore (ls' := [_, _, _, _, _, _, _, _]) dX1_planned_10 (Nat.le_of_ble_eq_true rfl) rfl rfl ?_
  refine jd_iconst (v := 0) dX1_planned_12 (by decide) ?_
  refine jd_istore (ls' := [_, _, _, _, _, _, _, _]) dX1_planned_13 (Nat.le_of_ble_eq_true rfl) rfl rfl ?_
  have lp15_1 : ∀ (j : Nat) (g : Nat) (hg0 : g + j = wh), jd_W G mX1_planned 6 (0) (0) 15 [some (.ref (β 0 0)), some (.ref (q)), some (.int (nI p)), some (.int (nI wh)), some (.int (nI ((plS κ s0 p g).1))), some (.int ((plS κ s0 p g).2)), some (.int (nI g)), none] [] (jd_mat G h q (nG κ + 1) (10 * nG κ + 1) (FF κ (nG κ))) (jd_pu (jd_mat G h q (nG κ + 1) (10 * nG κ + 1) (FF κ (nG κ))) (.int (nI (plO κ s0 p wh)))) jd_no := by
    intro j
    induction j with
    | zero =>
      intro g hg0
      have hke : g = wh := by omega
      rw [hke]
      refine jd_iload dX1_planned_15 rfl ?_
      refine jd_iload_n dX1_planned_17 rfl ?_
      refine jd_ncmp_ge (a := wh) (b := wh) (tgt := 76) dX1_planned_18 (by decide) (by omega) (by omega) (fun z2 => ?_) (fun z3 => ?_)
      · refine jd_aload_n dX1_planned_76 rfl ?_
        refine jd_aload_n dX1_planned_77 rfl ?_
        refine jd_iload_n dX1_planned_78 rfl ?_
        refine jd_iload dX1_planned_79 rfl ?_
        refine jd_iload dX1_planned_81 rfl ?_
        have hpl := plS_ok hI hp hp0 hs8 wh (by omega)
        refine jd_pV (As := [.ref (q), .int (nI wh), .int (nI ((plS κ s0 p wh).1)), .int ((plS κ s0 p wh).2)]) (rest := []) (ct_X1_oddsOf hw hI hq wh ((plS κ s0 p wh).1) ((plS κ s0 p wh).2) (by omega) (by omega) hpl.2.1) (jd_rv (jd_mat_t ((w_this hw))) 0 rfl rfl) rfl q587 q589 qs33 q80 q590 nX1_oddsOf dX1_planned_83 rfl rfl rfl (Nat.le_of_ble_eq_true rfl) ⟨(Nat.le_of_ble_eq_true rfl), (Nat.le_of_ble_eq_true rfl)⟩ ?_
        exact jd_iret dX1_planned_86 rfl ⟨rfl, rfl⟩
      · omega
    | succ j ih15 =>
      intro g hg0
      have hpl := plS_ok hI hp hp0 hs8 g (by omega)
      have hwb := (hw_is hI (g := g) (by omega)).2
      have hcb := fun x => catM_bd hI (nG κ - (g + 1)) (by omega) x
      have hl2 := hpl.2.1
      rw [catM_s (by omega)] at hl2
      have hok := odds_ok (by have := hcb ((plS κ s0 p g).1 - 0); omega) hl2
      have hwo := Nat.mul_le_mul hwb (show oddsI (hwN κ g) (catM κ (nG κ - (g + 1))) (plS κ s0 p g).1 (plS κ s0 p g).2 ≤ 10 by omega)
      refine jd_iload dX1_planned_15 rfl ?_
      refine jd_iload_n dX1_planned_17 rfl ?_
      refine jd_ncmp_ge (a := g) (b := wh) (tgt := 76) dX1_planned_18 (by decide) (by omega) (by omega) (fun z4 => ?_) (fun z5 => ?_)
      · omega
      · refine jd_aload_n dX1_planned_21 rfl ?_
        refine jd_aload_n dX1_planned_22 rfl ?_
        refine jd_iload dX1_planned_23 rfl ?_
        refine jd_iload dX1_planned_25 rfl ?_
        refine jd_iload dX1_planned_27 rfl ?_
        refine jd_pV (As := [.ref (q), .int (nI g), .int (nI ((plS κ s0 p g).1)), .int ((plS κ s0 p g).2)]) (rest := []) (ct_X1_oddsOf hw hI hq g ((plS κ s0 p g).1) ((plS κ s0 p g).2) (by omega) (by omega) hpl.2.1) (jd_rv (jd_mat_t ((w_this hw))) 0 rfl rfl) rfl q587 q589 qs33 q80 q590 nX1_oddsOf dX1_planned_29 rfl rfl rfl (Nat.le_of_ble_eq_true rfl) ⟨(Nat.le_of_ble_eq_true rfl), (Nat.le_of_ble_eq_true rfl)⟩ ?_
        refine jd_istore (ls' := [_, _, _, _, _, _, _, _]) dX1_planned_32 (Nat.le_of_ble_eq_true rfl) rfl rfl ?_
        refine jd_iload dX1_planned_34 rfl ?_
        refine jd_iload dX1_planned_36 rfl ?_
        refine jd_isubN (a := (plS κ s0 p g).1) (b := (oddsI (hwN κ g) (catM κ (nG κ - (g + 1))) ((plS κ s0 p g).1) ((plS κ s0 p g).2))) dX1_planned_38 (by omega) ?_
        refine jd_istore (ls' := [_, _, _, _, _, _, _, _]) dX1_planned_39 (Nat.le_of_ble_eq_true rfl) rfl rfl ?_
        refine jd_iload dX1_planned_41 rfl ?_
        refine jd_aload_n dX1_planned_43 rfl ?_
        refine jd_aload_n dX1_planned_44 rfl ?_
        refine jd_get in_X1 (jd_mat_t ((w_this hw))) 1 q284 dX1_planned_45 rfl (Nat.le_of_ble_eq_true rfl) rfl ?_
        refine jd_iload dX1_planned_48 rfl ?_
        refine jd_pF (n := 1) (As := [.int (nI g)]) (rest := [.ref (β 0 0), .int ((plS κ s0 p g).2)]) (ct_J2_get (jd_mat_t hlG) (show nG κ ≤ 900 by omega) (k := g) (show g < nG κ by omega)) (jd_rv (jd_mat_t hlG) 15 rfl rfl) (ci := 15) rfl (List.mem_of_getElem? (i := 1) rfl) rfl q320 q323 q325 q83 q327 q322 q326 q324 q207 ⟨by decide, by decide, by decide +kernel⟩ dX1_planned_50 rfl rfl (Nat.le_of_ble_eq_true rfl) ⟨(Nat.le_of_ble_eq_true rfl), (Nat.le_of_ble_eq_true rfl)⟩ ?_
        refine jd_castS (jd_rv (jd_mat_t (((w_gate hw)) g (show g < nG κ by omega))) 3 rfl rfl) (ci := 3) rfl q347 dX1_planned_55 ?_
        refine jd_pV (As := [.ref (β 2 g)]) (rest := [.int ((plS κ s0 p g).2)]) (ct_X1_hiddenWorth (WC.mat hw hq) hI (g) (by omega)) (jd_rv (jd_mat_t ((w_this hw))) 0 rfl rfl) rfl q474 q476 qs18 q80 q477 nX1_hiddenWorth dX1_planned_58 rfl rfl rfl (Nat.le_of_ble_eq_true rfl) ⟨(Nat.le_of_ble_eq_true rfl), (Nat.le_of_ble_eq_true rfl)⟩ ?_
        refine jd_top (w := .int (nI (hwN κ g))) (congrArg Value.int (hw_is hI (by omega)).1) ?_
        refine jd_iload dX1_planned_61 rfl ?_
        refine jd_imulN (a := (hwN κ g)) (b := (oddsI (hwN κ g) (catM κ (nG κ - (g + 1))) ((plS κ s0 p g).1) ((plS κ s0 p g).2))) dX1_planned_63 ?_
        refine jd_bipush (v := 10) dX1_planned_64 (by decide) ?_
        refine jd_idivN (a := ((hwN κ g) * (oddsI (hwN κ g) (catM κ (nG κ - (g + 1))) ((plS κ s0 p g).1) ((plS κ s0 p g).2)))) (b := 10) dX1_planned_66 (by omega) (by omega) (by omega) ?_
        refine jd_isub dX1_planned_67 ?_
        refine jd_istore (ls' := [_, _, _, _, _, _, _, _]) dX1_planned_68 (Nat.le_of_ble_eq_true rfl) rfl rfl ?_
        refine jd_iincN (n := 1) (ls' := [_, _, _, _, _, _, _, _]) dX1_planned_70 rfl (Nat.le_of_ble_eq_true rfl) rfl rfl ?_
        refine jd_goto (tgt := 15) dX1_planned_73 (by decide) ?_
        refine jd_lsub [some (.ref (β 0 0)), some (.ref (q)), some (.int (nI p)), some (.int (nI wh)), some (.int (nI ((plS κ s0 p (g + 1)).1))), some (.int ((plS κ s0 p (g + 1)).2)), some (.int (nI (g + 1))), none] ⟨rfl, rfl, rfl, rfl, rfl, rfl, rfl, trivial⟩ ?_
        exact ih15 (g + 1) (by omega)
  refine jd_lsub [some (.ref (β 0 0)), some (.ref (q)), some (.int (nI p)), some (.int (nI wh)), some (.int (nI ((plS κ s0 p 0).1))), some (.int ((plS κ s0 p 0).2)), some (.int (nI 0)), none] ⟨rfl, rfl, rfl, rfl, rfl, rfl, rfl, trivial⟩ ?_
  exact lp15_1 (wh) 0 (by omega)

set_option maxRecDepth 20000 in
set_option maxHeartbeats 2000000 in
theorem ct_X1_planNow {G : jd_G} {β : ll_B} {κ : ll_K} {h : jd_H} (hw : WC G β κ h) (hI : ll_I κ) (p : Nat) (hp : p ≤ 2000) (o : Option Nat) (ho : ∀ j, o = some j → j < nG κ) : jd_Ct G mX1_planNow 7 (10) (738) [.ref (β 0 0), .int (nI p), .int ((oI o))] h (jd_pu h (.int (planVal κ p o))) jd_no := by
  obtain ⟨⟨hG8, hS12, hP24, hH40, hN99, hH24⟩, hIg, hIs, hIp, hIh, hIl, hIq⟩ := id hI
  obtain ⟨mcL, hlL⟩ := w_lands hw
  obtain ⟨mcG, hlG⟩ := w_gates hw
  obtain ⟨mcS, hlS⟩ := w_sleepers hw
  obtain ⟨mcP, hlP⟩ := w_parts hw
  obtain ⟨mcH, hlH⟩ := w_hidings hw
  refine jd_ct (ls := [some (.ref (β 0 0)), some (.int (nI p)), some (.int ((oI o))), none, none]) rfl rfl (by decide) (Nat.le_of_ble_eq_true rfl) rfl ?_
  refine jd_aload_n dX1_planNow_0 rfl ?_
  refine jd_callV (As := []) (rest := []) (ct_X1_catches hw hI) (jd_rv ((w_this hw)) 0 rfl rfl) rfl q573 q575 qs31 q80 q576 nX1_catches dX1_planNow_1 rfl rfl rfl (Nat.le_of_ble_eq_true rfl) ⟨(Nat.le_of_ble_eq_true rfl), (Nat.le_of_ble_eq_true rfl), by omega, by omega⟩ (fun rv0 hn0 hq0 => ?_) jd_nox
  obtain ⟨q, hq, rfl, rfl⟩ := hq0
  refine jd_astore_n (ls' := [_, _, _, _, _]) dX1_planNow_4 (Nat.le_of_ble_eq_true rfl) rfl rfl ?_
  refine jd_aload_n dX1_planNow_5 rfl ?_
  refine jd_iconst (v := 0) dX1_planNow_6 (by decide) ?_
  refine jd_top (w := .int (nI 0)) rfl ?_
  refine jd_aaldI (y := (q + 1 + 0)) jd_mat_0 dX1_planNow_7 (vp_in_nI (by omega) (by omega)) (by rw [nI_clamp (by omega)]) ?_
  refine jd_iload_n dX1_planNow_8 rfl ?_
  refine jd_pS (As := [.ref ((q + 1 + 0)), .int (nI p)]) (rest := []) (ct_X1_leastSum (n := 10 * nG κ + 1) (p := p) (T := catM κ (nG κ)) (jd_mat_k (k := 0) (by omega)) (by omega) (fun s hs => FF_at hs) (fun s hs => by have := catM_bd hI (nG κ) (Nat.le_refl _) s; omega) (by omega)) rfl q580 q581 q80 q582 nX1_leastSum dX1_planNow_9 rfl rfl (Nat.le_of_ble_eq_true rfl) ⟨(Nat.le_of_ble_eq_true rfl), (Nat.le_of_ble_eq_true rfl)⟩ ?_
  refine jd_istore (ls' := [_, _, _, _, _]) dX1_planNow_12 (Nat.le_of_ble_eq_true rfl) rfl rfl ?_
  refine jd_iload dX1_planNow_14 rfl ?_
  refine jd_iconst (v := (-1)) dX1_planNow_16 (by decide) ?_
  refine jd_ocmpN_eq (tgt := 25) dX1_planNow_17 (by decide) (fun j hj => by have := ll_find_lt hj; omega) (fun z2 => ?_) (fun z3 => ?_)
  · refine jd_iload dX1_planNow_25 rfl ?_
    refine jd_goto (tgt := 37) dX1_planNow_27 (by decide) ?_
    refine jd_drop (h' := h) (jd_mat_keep hq) ?_
    exact jd_iret dX1_planNow_37 rfl ⟨by simp only [planVal, z2, oI], rfl⟩
  · obtain ⟨s0, hs0⟩ := Option.ne_none_iff_exists'.mp z3
    refine jd_iload_n dX1_planNow_20 rfl ?_
    refine jd_iconst (v := (-1)) dX1_planNow_21 (by decide) ?_
    refine jd_ocmpN_ne (tgt := 30) dX1_planNow_22 (by decide) (fun j hj => by have := ho j hj; omega) (fun z4 => ?_) (fun z5 => ?_)
    · obtain ⟨g, hg0⟩ := Option.ne_none_iff_exists'.mp z4
      have hg := ho g hg0
      refine jd_aload_n dX1_planNow_30 rfl ?_
      refine jd_aload_n dX1_planNow_31 rfl ?_
      refine jd_iload_n dX1_planNow_32 rfl ?_
      refine jd_iload_n dX1_planNow_33 rfl ?_
      refine jd_top (w := .int (nI g)) (congrArg Value.int (by rw [hg0]; rfl)) ?_
      refine jd_pV (As := [.ref (q), .int (nI p), .int (nI g)]) (rest := []) (ct_X1_planned hw hI hq p s0 g (by omega) hs0 (by omega)) (jd_rv (jd_mat_t ((w_this hw))) 0 rfl rfl) rfl q583 q585 qs32 q80 q586 nX1_planned dX1_planNow_34 rfl rfl rfl (Nat.le_of_ble_eq_true rfl) ⟨(Nat.le_of_ble_eq_true rfl), (Nat.le_of_ble_eq_true rfl)⟩ ?_
      refine jd_drop (h' := h) (jd_mat_keep hq) ?_
      exact jd_iret dX1_planNow_37 rfl ⟨by simp only [planVal, hs0, hg0], rfl⟩
    · refine jd_iload dX1_planNow_25 rfl ?_
      refine jd_goto (tgt := 37) dX1_planNow_27 (by decide) ?_
      refine jd_drop (h' := h) (jd_mat_keep hq) ?_
      exact jd_iret dX1_planNow_37 rfl ⟨by simp only [planVal, hs0, z5, oI], rfl⟩
