/-! the component, reading, second (printed by mk_c.py) -/
set_option maxRecDepth 20000 in
set_option maxHeartbeats 2000000 in
theorem ct_X14_fits {G : jd_G} {β : ll_B} {κ : ll_K} {h : jd_H} (hw : WC G β κ h) (hI : ll_I κ) (i j : Nat) (hi : i < (hids κ).length) (hj : j < (hids κ).length) : jd_Ct G mX14_fits 1 (0) (0) [.ref (β 9 i), .ref (β 9 j)] h (jd_pu h (.int (jd_b (hidFit κ i j)))) jd_no := by
  obtain ⟨⟨hG8, hS12, hP24, hH40, hN99, hH24⟩, hIg, hIs, hIp, hIh, hIl, hIq⟩ := id hI
  obtain ⟨mcL, hlL⟩ := w_lands hw
  obtain ⟨mcG, hlG⟩ := w_gates hw
  obtain ⟨mcS, hlS⟩ := w_sleepers hw
  obtain ⟨mcP, hlP⟩ := w_parts hw
  obtain ⟨mcH, hlH⟩ := w_hidings hw
  have hh1 := hIh i hi
  have hh2 := hIh j hj
  refine jd_ct (ls := [some (.ref (β 9 i)), some (.ref (β 9 j))]) rfl rfl (by decide) (Nat.le_of_ble_eq_true rfl) rfl ?_
  refine jd_aload_n dX14_fits_0 rfl ?_
  refine jd_get in_X14 (((w_hid hw)) i (by omega)) 1 q1060 dX14_fits_1 rfl (Nat.le_of_ble_eq_true rfl) rfl ?_
  refine jd_aload_n dX14_fits_4 rfl ?_
  refine jd_get in_X14 (((w_hid hw)) j (by omega)) 1 q1060 dX14_fits_5 rfl (Nat.le_of_ble_eq_true rfl) rfl ?_
  refine jd_mg2 32 (.int (jd_b ((((hD κ i) = (hD κ j)) ∧ (¬ (2 < (if 0 ≤ (nI ((hN κ i)) - nI ((hN κ j))) then (nI ((hN κ i)) - nI ((hN κ j))) else (0 - (nI ((hN κ i)) - nI ((hN κ j))))))))))) (fun hj1 => ?_) ?_
  · refine jd_ncmp_ne (a := (hD κ i)) (b := (hD κ j)) (tgt := 31) dX14_fits_8 (by decide) (by omega) (by omega) (fun z2 => ?_) (fun z3 => ?_)
    · refine jd_iconst (v := 0) dX14_fits_31 (by decide) ?_
      exact jd_top (congrArg Value.int (jd_b0 (fun w => z2 w.1)).symm) hj1
    · refine jd_aload_n dX14_fits_11 rfl ?_
      refine jd_get in_X14 (((w_hid hw)) i (by omega)) 2 q1061 dX14_fits_12 rfl (Nat.le_of_ble_eq_true rfl) rfl ?_
      refine jd_aload_n dX14_fits_15 rfl ?_
      refine jd_get in_X14 (((w_hid hw)) j (by omega)) 2 q1061 dX14_fits_16 rfl (Nat.le_of_ble_eq_true rfl) rfl ?_
      refine jd_isub dX14_fits_19 ?_
      refine jd_mabs q553 q511 q87 q512 dX14_fits_20 (Nat.le_of_ble_eq_true rfl) (Nat.le_of_ble_eq_true rfl) ?_
      refine jd_iconst (v := 2) dX14_fits_23 (by decide) ?_
      refine jd_icmp_gt (tgt := 31) dX14_fits_24 (by decide) (fun z4 => ?_) (fun z5 => ?_)
      · refine jd_iconst (v := 0) dX14_fits_31 (by decide) ?_
        exact jd_top (congrArg Value.int (jd_b0 (fun w => (fun w => w z4) w.2)).symm) hj1
      · refine jd_iconst (v := 1) dX14_fits_27 (by decide) ?_
        refine jd_goto (tgt := 32) dX14_fits_28 (by decide) ?_
        exact jd_top (congrArg Value.int (jd_b1 ⟨z3, z5⟩).symm) hj1
  · exact jd_zret dX14_fits_32 rfl (jd_b01 _) ⟨congrArg (fun x => some (Value.int x)) (jd_bcong ⟨fun w => w, fun w => w⟩), rfl⟩

set_option maxRecDepth 20000 in
set_option maxHeartbeats 2000000 in
theorem ct_X1_areLinked {G : jd_G} {β : ll_B} {κ : ll_K} {h : jd_H} (hw : WC G β κ h) (hI : ll_I κ) (a : Nat) (ha : a < 2 ^ 31) (b : Nat) (hb : b < 2 ^ 31) : jd_Ct G mX1_areLinked 3 (0) (0) [.ref (β 0 0), .int (nI a), .int (nI b)] h (jd_pu h (.int (jd_b (linked κ a b = true)))) jd_no := by
  obtain ⟨⟨hG8, hS12, hP24, hH40, hN99, hH24⟩, hIg, hIs, hIp, hIh, hIl, hIq⟩ := id hI
  obtain ⟨mcL, hlL⟩ := w_lands hw
  obtain ⟨mcG, hlG⟩ := w_gates hw
  obtain ⟨mcS, hlS⟩ := w_sleepers hw
  obtain ⟨mcP, hlP⟩ := w_parts hw
  obtain ⟨mcH, hlH⟩ := w_hidings hw
  refine jd_ct (ls := [some (.ref (β 0 0)), some (.int (nI a)), some (.int (nI b)), none, none]) rfl rfl (by decide) (Nat.le_of_ble_eq_true rfl) rfl ?_
  refine jd_iconst (v := 0) dX1_areLinked_0 (by decide) ?_
  refine jd_istore_n (ls' := [_, _, _, _, _]) dX1_areLinked_1 (Nat.le_of_ble_eq_true rfl) rfl rfl ?_
  have lp2_1 : ∀ (j : Nat) (x : Nat) (hx0 : x + j = (hids κ).length) (hno : ∀ i, i < x → ¬ ∃ j, j < (hids κ).length ∧ linkAt κ a b i j), jd_W G mX1_areLinked 3 (0) (0) 2 [some (.ref (β 0 0)), some (.int (nI a)), some (.int (nI b)), some (.int (nI x)), none] [] h (jd_pu h (.int (jd_b (linked κ a b = true)))) jd_no := by
    intro j
    induction j with
    | zero =>
      intro x hx0 hno
      obtain rfl : x = (hids κ).length := by omega
      refine jd_iload_n dX1_areLinked_2 rfl ?_
      refine jd_aload_n dX1_areLinked_3 rfl ?_
      refine jd_get in_X1 ((w_this hw)) 4 q287 dX1_areLinked_4 rfl (Nat.le_of_ble_eq_true rfl) rfl ?_
      refine jd_pF (n := 0) (As := []) (rest := [.int (nI ((hids κ).length))]) (ct_J2_size hlH (show (hids κ).length ≤ 900 by omega)) (jd_rv hlH 15 rfl rfl) (ci := 15) rfl (List.mem_of_getElem? (i := 2) rfl) rfl q339 q342 q344 q83 q346 q341 q345 q343 q207 ⟨by decide, by decide, by decide +kernel⟩ dX1_areLinked_7 rfl rfl (Nat.le_of_ble_eq_true rfl) ⟨(Nat.le_of_ble_eq_true rfl), (Nat.le_of_ble_eq_true rfl)⟩ ?_
      refine jd_ncmp_ge (a := (hids κ).length) (b := (hids κ).length) (tgt := 120) dX1_areLinked_12 (by decide) (by omega) (by omega) (fun z2 => ?_) (fun z3 => ?_)
      · refine jd_iconst (v := 0) dX1_areLinked_120 (by decide) ?_
        exact jd_zret dX1_areLinked_121 rfl (Or.inl rfl) ⟨congrArg (fun x => some (Value.int x)) (jd_b0 (fun w => by obtain ⟨i2, hi2, hr2⟩ := linked_iff.mp w; exact hno i2 hi2 hr2)).symm, rfl⟩
      · omega
    | succ j ih2 =>
      intro x hx0 hno
      have hh1 := hIh x (by omega)
      refine jd_iload_n dX1_areLinked_2 rfl ?_
      refine jd_aload_n dX1_areLinked_3 rfl ?_
      refine jd_get in_X1 ((w_this hw)) 4 q287 dX1_areLinked_4 rfl (Nat.le_of_ble_eq_true rfl) rfl ?_
      refine jd_pF (n := 0) (As := []) (rest := [.int (nI x)]) (ct_J2_size hlH (show (hids κ).length ≤ 900 by omega)) (jd_rv hlH 15 rfl rfl) (ci := 15) rfl (List.mem_of_getElem? (i := 2) rfl) rfl q339 q342 q344 q83 q346 q341 q345 q343 q207 ⟨by decide, by decide, by decide +kernel⟩ dX1_areLinked_7 rfl rfl (Nat.le_of_ble_eq_true rfl) ⟨(Nat.le_of_ble_eq_true rfl), (Nat.le_of_ble_eq_true rfl)⟩ ?_
      refine jd_ncmp_ge (a := x) (b := (hids κ).length) (tgt := 120) dX1_areLinked_12 (by decide) (by omega) (by omega) (fun z4 => ?_) (fun z5 => ?_)
      · omega
      · refine jd_iconst (v := 0) dX1_areLinked_15 (by decide) ?_
        refine jd_istore (ls' := [_, _, _, _, _]) dX1_areLinked_16 (Nat.le_of_ble_eq_true rfl) rfl rfl ?_
        have lp18_6 : ∀ (j : Nat) (y : Nat) (hy0 : y + j = (hids κ).length) (hnj : ∀ j, j < y → ¬ linkAt κ a b x j), jd_W G mX1_areLinked 3 (0) (0) 18 [some (.ref (β 0 0)), some (.int (nI a)), some (.int (nI b)), some (.int (nI x)), some (.int (nI y))] [] h (jd_pu h (.int (jd_b (linked κ a b = true)))) jd_no := by
          intro j
          induction j with
          | zero =>
            intro y hy0 hnj
            obtain rfl : y = (hids κ).length := by omega
            refine jd_iload dX1_areLinked_18 rfl ?_
            refine jd_aload_n dX1_areLinked_20 rfl ?_
            refine jd_get in_X1 ((w_this hw)) 4 q287 dX1_areLinked_21 rfl (Nat.le_of_ble_eq_true rfl) rfl ?_
            refine jd_pF (n := 0) (As := []) (rest := [.int (nI ((hids κ).length))]) (ct_J2_size hlH (show (hids κ).length ≤ 900 by omega)) (jd_rv hlH 15 rfl rfl) (ci := 15) rfl (List.mem_of_getElem? (i := 2) rfl) rfl q339 q342 q344 q83 q346 q341 q345 q343 q207 ⟨by decide, by decide, by decide +kernel⟩ dX1_areLinked_24 rfl rfl (Nat.le_of_ble_eq_true rfl) ⟨(Nat.le_of_ble_eq_true rfl), (Nat.le_of_ble_eq_true rfl)⟩ ?_
            refine jd_ncmp_ge (a := (hids κ).length) (b := (hids κ).length) (tgt := 114) dX1_areLinked_29 (by decide) (by omega) (by omega) (fun z7 => ?_) (fun z8 => ?_)
            · have hno2 : ∀ i, i < x + 1 → ¬ ∃ j, j < (hids κ).length ∧ linkAt κ a b i j := fun i hi hh => by rcases Nat.lt_succ_iff_lt_or_eq.mp hi with w | w; exact hno i w hh; subst w; obtain ⟨j2, hj2, hl2⟩ := hh; exact hnj j2 hj2 hl2
              refine jd_iincN (n := 1) (ls' := [_, _, _, _, _]) dX1_areLinked_114 rfl (Nat.le_of_ble_eq_true rfl) rfl rfl ?_
              refine jd_goto (tgt := 2) dX1_areLinked_117 (by decide) ?_
              refine jd_lsub [some (.ref (β 0 0)), some (.int (nI a)), some (.int (nI b)), some (.int (nI (x + 1))), none] ⟨rfl, rfl, rfl, rfl, trivial⟩ ?_
              exact ih2 (x + 1) (by omega) hno2
            · omega
          | succ j ih18 =>
            intro y hy0 hnj
            have hh2 := hIh y (by omega)
            refine jd_iload dX1_areLinked_18 rfl ?_
            refine jd_aload_n dX1_areLinked_20 rfl ?_
            refine jd_get in_X1 ((w_this hw)) 4 q287 dX1_areLinked_21 rfl (Nat.le_of_ble_eq_true rfl) rfl ?_
            refine jd_pF (n := 0) (As := []) (rest := [.int (nI y)]) (ct_J2_size hlH (show (hids κ).length ≤ 900 by omega)) (jd_rv hlH 15 rfl rfl) (ci := 15) rfl (List.mem_of_getElem? (i := 2) rfl) rfl q339 q342 q344 q83 q346 q341 q345 q343 q207 ⟨by decide, by decide, by decide +kernel⟩ dX1_areLinked_24 rfl rfl (Nat.le_of_ble_eq_true rfl) ⟨(Nat.le_of_ble_eq_true rfl), (Nat.le_of_ble_eq_true rfl)⟩ ?_
            refine jd_ncmp_ge (a := y) (b := (hids κ).length) (tgt := 114) dX1_areLinked_29 (by decide) (by omega) (by omega) (fun z9 => ?_) (fun z10 => ?_)
            · omega
            · refine jd_aload_n dX1_areLinked_32 rfl ?_
              refine jd_get in_X1 ((w_this hw)) 4 q287 dX1_areLinked_33 rfl (Nat.le_of_ble_eq_true rfl) rfl ?_
              refine jd_iload_n dX1_areLinked_36 rfl ?_
              refine jd_pF (n := 1) (As := [.int (nI x)]) (rest := []) (ct_J2_get hlH (show (hids κ).length ≤ 900 by omega) (k := x) (show x < (hids κ).length by omega)) (jd_rv hlH 15 rfl rfl) (ci := 15) rfl (List.mem_of_getElem? (i := 1) rfl) rfl q320 q323 q325 q83 q327 q322 q326 q324 q207 ⟨by decide, by decide, by decide +kernel⟩ dX1_areLinked_37 rfl rfl (Nat.le_of_ble_eq_true rfl) ⟨(Nat.le_of_ble_eq_true rfl), (Nat.le_of_ble_eq_true rfl)⟩ ?_
              refine jd_castS (jd_rv (((w_hid hw)) x (by omega)) 7 rfl rfl) (ci := 7) rfl q548 dX1_areLinked_42 ?_
              refine jd_getN in_X14 (((w_hid hw)) x (by omega)) 0 q1059 dX1_areLinked_45 rfl (Nat.le_of_ble_eq_true rfl) rfl ?_
              refine jd_iload_n dX1_areLinked_48 rfl ?_
              refine jd_ncmp_ne (a := (hS κ x)) (b := a) (tgt := 114) dX1_areLinked_49 (by decide) (by omega) (by omega) (fun z11 => ?_) (fun z12 => ?_)
              · have hno2 : ∀ i, i < x + 1 → ¬ ∃ j, j < (hids κ).length ∧ linkAt κ a b i j := fun i hi hh => by rcases Nat.lt_succ_iff_lt_or_eq.mp hi with w | w; exact hno i w hh; subst w; obtain ⟨j2, hj2, hl2⟩ := hh; exact z11 hl2.1
                refine jd_iincN (n := 1) (ls' := [_, _, _, _, _]) dX1_areLinked_114 rfl (Nat.le_of_ble_eq_true rfl) rfl rfl ?_
                refine jd_goto (tgt := 2) dX1_areLinked_117 (by decide) ?_
                refine jd_lsub [some (.ref (β 0 0)), some (.int (nI a)), some (.int (nI b)), some (.int (nI (x + 1))), none] ⟨rfl, rfl, rfl, rfl, trivial⟩ ?_
                exact ih2 (x + 1) (by omega) hno2
              · refine jd_aload_n dX1_areLinked_52 rfl ?_
                refine jd_get in_X1 ((w_this hw)) 4 q287 dX1_areLinked_53 rfl (Nat.le_of_ble_eq_true rfl) rfl ?_
                refine jd_iload dX1_areLinked_56 rfl ?_
                refine jd_pF (n := 1) (As := [.int (nI y)]) (rest := []) (ct_J2_get hlH (show (hids κ).length ≤ 900 by omega) (k := y) (show y < (hids κ).length by omega)) (jd_rv hlH 15 rfl rfl) (ci := 15) rfl (List.mem_of_getElem? (i := 1) rfl) rfl q320 q323 q325 q83 q327 q322 q326 q324 q207 ⟨by decide, by decide, by decide +kernel⟩ dX1_areLinked_58 rfl rfl (Nat.le_of_ble_eq_true rfl) ⟨(Nat.le_of_ble_eq_true rfl), (Nat.le_of_ble_eq_true rfl)⟩ ?_
                refine jd_castS (jd_rv (((w_hid hw)) y (by omega)) 7 rfl rfl) (ci := 7) rfl q548 dX1_areLinked_63 ?_
                refine jd_getN in_X14 (((w_hid hw)) y (by omega)) 0 q1059 dX1_areLinked_66 rfl (Nat.le_of_ble_eq_true rfl) rfl ?_
                refine jd_iload_n dX1_areLinked_69 rfl ?_
                refine jd_ncmp_ne (a := (hS κ y)) (b := b) (tgt := 108) dX1_areLinked_70 (by decide) (by omega) (by omega) (fun z13 => ?_) (fun z14 => ?_)
                · have hnj2 : ∀ j, j < y + 1 → ¬ linkAt κ a b x j := fun i hi hh => by rcases Nat.lt_succ_iff_lt_or_eq.mp hi with w | w; exact hnj i w hh; subst w; exact z13 hh.2.1
                  refine jd_iincN (n := 1) (ls' := [_, _, _, _, _]) dX1_areLinked_108 rfl (Nat.le_of_ble_eq_true rfl) rfl rfl ?_
                  refine jd_goto (tgt := 18) dX1_areLinked_111 (by decide) ?_
                  refine jd_lsub [some (.ref (β 0 0)), some (.int (nI a)), some (.int (nI b)), some (.int (nI x)), some (.int (nI (y + 1)))] ⟨rfl, rfl, rfl, rfl, rfl, trivial⟩ ?_
                  exact ih18 (y + 1) (by omega) hnj2
                · refine jd_aload_n dX1_areLinked_73 rfl ?_
                  refine jd_get in_X1 ((w_this hw)) 4 q287 dX1_areLinked_74 rfl (Nat.le_of_ble_eq_true rfl) rfl ?_
                  refine jd_iload_n dX1_areLinked_77 rfl ?_
                  refine jd_pF (n := 1) (As := [.int (nI x)]) (rest := []) (ct_J2_get hlH (show (hids κ).length ≤ 900 by omega) (k := x) (show x < (hids κ).length by omega)) (jd_rv hlH 15 rfl rfl) (ci := 15) rfl (List.mem_of_getElem? (i := 1) rfl) rfl q320 q323 q325 q83 q327 q322 q326 q324 q207 ⟨by decide, by decide, by decide +kernel⟩ dX1_areLinked_78 rfl rfl (Nat.le_of_ble_eq_true rfl) ⟨(Nat.le_of_ble_eq_true rfl), (Nat.le_of_ble_eq_true rfl)⟩ ?_
                  refine jd_castS (jd_rv (((w_hid hw)) x (by omega)) 7 rfl rfl) (ci := 7) rfl q548 dX1_areLinked_83 ?_
                  refine jd_aload_n dX1_areLinked_86 rfl ?_
                  refine jd_get in_X1 ((w_this hw)) 4 q287 dX1_areLinked_87 rfl (Nat.le_of_ble_eq_true rfl) rfl ?_
                  refine jd_iload dX1_areLinked_90 rfl ?_
                  refine jd_pF (n := 1) (As := [.int (nI y)]) (rest := [.ref (β 9 x)]) (ct_J2_get hlH (show (hids κ).length ≤ 900 by omega) (k := y) (show y < (hids κ).length by omega)) (jd_rv hlH 15 rfl rfl) (ci := 15) rfl (List.mem_of_getElem? (i := 1) rfl) rfl q320 q323 q325 q83 q327 q322 q326 q324 q207 ⟨by decide, by decide, by decide +kernel⟩ dX1_areLinked_92 rfl rfl (Nat.le_of_ble_eq_true rfl) ⟨(Nat.le_of_ble_eq_true rfl), (Nat.le_of_ble_eq_true rfl)⟩ ?_
                  refine jd_castS (jd_rv (((w_hid hw)) y (by omega)) 7 rfl rfl) (ci := 7) rfl q548 dX1_areLinked_97 ?_
                  refine jd_pV (As := [.ref (β 9 y)]) (rest := []) (ct_X14_fits hw hI (x) (y) (by omega) (by omega)) (jd_rv (((w_hid hw)) x (by omega)) 7 rfl rfl) rfl q549 q550 q551 q121 q552 nX14_fits dX1_areLinked_100 rfl rfl rfl (Nat.le_of_ble_eq_true rfl) ⟨(Nat.le_of_ble_eq_true rfl), (Nat.le_of_ble_eq_true rfl)⟩ ?_
                  refine jd_bif_eq (tgt := 108) dX1_areLinked_103 (by decide) (fun z15 => ?_) (fun z16 => ?_)
                  · have hnj2 : ∀ j, j < y + 1 → ¬ linkAt κ a b x j := fun i hi hh => by rcases Nat.lt_succ_iff_lt_or_eq.mp hi with w | w; exact hnj i w hh; subst w; exact z15 hh.2.2
                    refine jd_iincN (n := 1) (ls' := [_, _, _, _, _]) dX1_areLinked_108 rfl (Nat.le_of_ble_eq_true rfl) rfl rfl ?_
                    refine jd_goto (tgt := 18) dX1_areLinked_111 (by decide) ?_
                    refine jd_lsub [some (.ref (β 0 0)), some (.int (nI a)), some (.int (nI b)), some (.int (nI x)), some (.int (nI (y + 1)))] ⟨rfl, rfl, rfl, rfl, rfl, trivial⟩ ?_
                    exact ih18 (y + 1) (by omega) hnj2
                  · refine jd_iconst (v := 1) dX1_areLinked_106 (by decide) ?_
                    exact jd_zret dX1_areLinked_107 rfl (Or.inr rfl) ⟨congrArg (fun x => some (Value.int x)) (jd_b1 (linked_iff.mpr ⟨x, by omega, y, by omega, z12, z14, z16⟩)).symm, rfl⟩
        refine jd_lsub [some (.ref (β 0 0)), some (.int (nI a)), some (.int (nI b)), some (.int (nI x)), some (.int (nI 0))] ⟨rfl, rfl, rfl, rfl, rfl, trivial⟩ ?_
        exact lp18_6 ((hids κ).length) 0 (by omega) (fun i hi => absurd hi (Nat.not_lt_zero i))
  refine jd_lsub [some (.ref (β 0 0)), some (.int (nI a)), some (.int (nI b)), some (.int (nI 0)), none] ⟨rfl, rfl, rfl, rfl, trivial⟩ ?_
  exact lp2_1 ((hids κ).length) 0 (by omega) (fun i hi => absurd hi (Nat.not_lt_zero i))

set_option maxRecDepth 20000 in
set_option maxHeartbeats 2000000 in
theorem ct_X1_ringOf {G : jd_G} {β : ll_B} {κ : ll_K} {h : jd_H} (hw : WC G β κ h) (hI : ll_I κ) (s : Nat) (hs : s < nS κ) : jd_Ct G mX1_ringOf 4 (0) (0) [.ref (β 0 0), .int (nI s)] h (jd_pu h (.int (ringN κ s))) jd_no := by
  obtain ⟨⟨hG8, hS12, hP24, hH40, hN99, hH24⟩, hIg, hIs, hIp, hIh, hIl, hIq⟩ := id hI
  obtain ⟨mcL, hlL⟩ := w_lands hw
  obtain ⟨mcG, hlG⟩ := w_gates hw
  obtain ⟨mcS, hlS⟩ := w_sleepers hw
  obtain ⟨mcP, hlP⟩ := w_parts hw
  obtain ⟨mcH, hlH⟩ := w_hidings hw
  refine jd_ct (ls := [some (.ref (β 0 0)), some (.int (nI s)), none, none, none, none]) rfl rfl (by decide) (Nat.le_of_ble_eq_true rfl) rfl ?_
  refine jd_iconst (v := 1) dX1_ringOf_0 (by decide) ?_
  refine jd_iload_n dX1_ringOf_1 rfl ?_
  refine jd_ishl dX1_ringOf_2 ?_
  refine jd_istore_n (ls' := [_, _, _, _, _, _]) dX1_ringOf_3 (Nat.le_of_ble_eq_true rfl) rfl rfl ?_
  refine jd_iconst (v := 0) dX1_ringOf_4 (by decide) ?_
  refine jd_istore_n (ls' := [_, _, _, _, _, _]) dX1_ringOf_5 (Nat.le_of_ble_eq_true rfl) rfl rfl ?_
  have lp6_1 : ∀ (j : Nat) (T Tb : Nat → Bool) (hT : T s = true) (hR : ∀ x, T x = true → Reach κ s x) (hc : ll_sB T = ll_sB Tb → (∀ a b, a < nS κ → b < nS κ → T a = true → linked κ a b = true → T b = true)) (hm : ll_sB T = ll_sB Tb ∨ ll_mi T 12 + 1 ≤ j), jd_W G mX1_ringOf 4 (0) (0) 6 [some (.ref (β 0 0)), some (.int (nI s)), some (.int ((ll_sB T))), some (.int ((ll_sB Tb))), none, none] [] h (jd_pu h (.int (ringN κ s))) jd_no := by
    intro j
    induction j with
    | zero =>
      intro T Tb hT hR hc hm
      refine jd_iload_n dX1_ringOf_6 rfl ?_
      refine jd_iload_n dX1_ringOf_7 rfl ?_
      refine jd_icmp_eq (tgt := 102) dX1_ringOf_8 (by decide) (fun z2 => ?_) (fun z3 => ?_)
      · refine jd_iload_n dX1_ringOf_102 rfl ?_
        exact jd_iret dX1_ringOf_103 rfl ⟨congrArg (fun x => some (Value.int x)) (ring_is hT hR (hc z2) (by omega)), rfl⟩
      · exact absurd (hm.resolve_left z3) (by omega)
    | succ j6 ih6 =>
      intro T Tb hT hR hc hm
      refine jd_iload_n dX1_ringOf_6 rfl ?_
      refine jd_iload_n dX1_ringOf_7 rfl ?_
      refine jd_icmp_eq (tgt := 102) dX1_ringOf_8 (by decide) (fun z4 => ?_) (fun z5 => ?_)
      · refine jd_iload_n dX1_ringOf_102 rfl ?_
        exact jd_iret dX1_ringOf_103 rfl ⟨congrArg (fun x => some (Value.int x)) (ring_is hT hR (hc z4) (by omega)), rfl⟩
      · have hmj := hm.resolve_left z5
        refine jd_iload_n dX1_ringOf_11 rfl ?_
        refine jd_istore_n (ls' := [_, _, _, _, _, _]) dX1_ringOf_12 (Nat.le_of_ble_eq_true rfl) rfl rfl ?_
        refine jd_iconst (v := 0) dX1_ringOf_13 (by decide) ?_
        refine jd_istore (ls' := [_, _, _, _, _, _]) dX1_ringOf_14 (Nat.le_of_ble_eq_true rfl) rfl rfl ?_
        have lp16_6 : ∀ (j : Nat) (p : Nat) (hp0 : p + j = nS κ) (T2 : Nat → Bool) (h1 : ∀ x, T x = true → T2 x = true) (hR2 : ∀ x, T2 x = true → Reach κ s x) (hcl : (∃ k, k < 12 ∧ T k ≠ true ∧ T2 k = true) ∨ T2 = T ∧ (∀ a b, a < p → b < nS κ → T a = true → linked κ a b = true → T b = true)), jd_W G mX1_ringOf 4 (0) (0) 16 [some (.ref (β 0 0)), some (.int (nI s)), some (.int ((ll_sB T2))), some (.int ((ll_sB T))), some (.int (nI p)), none] [] h (jd_pu h (.int (ringN κ s))) jd_no := by
          intro j
          induction j with
          | zero =>
            intro p hp0 T2 h1 hR2 hcl
            obtain rfl : p = nS κ := by omega
            refine jd_iload dX1_ringOf_16 rfl ?_
            refine jd_aload_n dX1_ringOf_18 rfl ?_
            refine jd_get in_X1 ((w_this hw)) 2 q285 dX1_ringOf_19 rfl (Nat.le_of_ble_eq_true rfl) rfl ?_
            refine jd_pF (n := 0) (As := []) (rest := [.int (nI (nS κ))]) (ct_J2_size hlS (show nS κ ≤ 900 by omega)) (jd_rv hlS 15 rfl rfl) (ci := 15) rfl (List.mem_of_getElem? (i := 2) rfl) rfl q339 q342 q344 q83 q346 q341 q345 q343 q207 ⟨by decide, by decide, by decide +kernel⟩ dX1_ringOf_22 rfl rfl (Nat.le_of_ble_eq_true rfl) ⟨(Nat.le_of_ble_eq_true rfl), (Nat.le_of_ble_eq_true rfl)⟩ ?_
            refine jd_ncmp_ge (a := nS κ) (b := nS κ) (tgt := 99) dX1_ringOf_27 (by decide) (by omega) (by omega) (fun z7 => ?_) (fun z8 => ?_)
            · have hcc : ll_sB T2 = ll_sB T → ∀ a b, a < nS κ → b < nS κ → T2 a = true → linked κ a b = true → T2 b = true := by
                intro e a b ha hb hta hl
                rcases hcl with ⟨k, hk, hk1, hk2⟩ | ⟨e2, hc2⟩
                · have := ll_sB_eq.mp e k hk; rw [hk2] at this; exact absurd this.symm hk1
                · subst e2; exact hc2 a b ha hb hta hl
              have hmm : ll_sB T2 = ll_sB T ∨ ll_mi T2 12 + 1 ≤ j6 := by
                rcases hcl with ⟨k, hk, hk1, hk2⟩ | ⟨e2, hc2⟩
                · have := ll_mi_lt h1 hk hk1 hk2; right; omega
                · left; rw [e2]
              refine jd_goto (tgt := 6) dX1_ringOf_99 (by decide) ?_
              refine jd_lsub [some (.ref (β 0 0)), some (.int (nI s)), some (.int ((ll_sB T2))), some (.int ((ll_sB T))), none, none] ⟨rfl, rfl, rfl, rfl, trivial⟩ ?_
              exact ih6 T2 T (h1 s hT) hR2 hcc hmm
            · omega
          | succ j ih16 =>
            intro p hp0 T2 h1 hR2 hcl
            refine jd_iload dX1_ringOf_16 rfl ?_
            refine jd_aload_n dX1_ringOf_18 rfl ?_
            refine jd_get in_X1 ((w_this hw)) 2 q285 dX1_ringOf_19 rfl (Nat.le_of_ble_eq_true rfl) rfl ?_
            refine jd_pF (n := 0) (As := []) (rest := [.int (nI p)]) (ct_J2_size hlS (show nS κ ≤ 900 by omega)) (jd_rv hlS 15 rfl rfl) (ci := 15) rfl (List.mem_of_getElem? (i := 2) rfl) rfl q339 q342 q344 q83 q346 q341 q345 q343 q207 ⟨by decide, by decide, by decide +kernel⟩ dX1_ringOf_22 rfl rfl (Nat.le_of_ble_eq_true rfl) ⟨(Nat.le_of_ble_eq_true rfl), (Nat.le_of_ble_eq_true rfl)⟩ ?_
            refine jd_ncmp_ge (a := p) (b := nS κ) (tgt := 99) dX1_ringOf_27 (by decide) (by omega) (by omega) (fun z9 => ?_) (fun z10 => ?_)
            · omega
            · refine jd_iconst (v := 0) dX1_ringOf_30 (by decide) ?_
              refine jd_istore (ls' := [_, _, _, _, _, _]) dX1_ringOf_31 (Nat.le_of_ble_eq_true rfl) rfl rfl ?_
              have lp33_11 : ∀ (j : Nat) (q : Nat) (hq0 : q + j = nS κ) (T3 : Nat → Bool) (h13 : ∀ x, T x = true → T3 x = true) (hR3 : ∀ x, T3 x = true → Reach κ s x) (hcl3 : (∃ k, k < 12 ∧ T k ≠ true ∧ T3 k = true) ∨ T3 = T ∧ (∀ a b, a < p → b < nS κ → T a = true → linked κ a b = true → T b = true) ∧ ∀ b, b < q → T p = true → linked κ p b = true → T b = true), jd_W G mX1_ringOf 4 (0) (0) 33 [some (.ref (β 0 0)), some (.int (nI s)), some (.int ((ll_sB T3))), some (.int ((ll_sB T))), some (.int (nI p)), some (.int (nI q))] [] h (jd_pu h (.int (ringN κ s))) jd_no := by
                intro j
                induction j with
                | zero =>
                  intro q hq0 T3 h13 hR3 hcl3
                  obtain rfl : q = nS κ := by omega
                  refine jd_iload dX1_ringOf_33 rfl ?_
                  refine jd_aload_n dX1_ringOf_35 rfl ?_
                  refine jd_get in_X1 ((w_this hw)) 2 q285 dX1_ringOf_36 rfl (Nat.le_of_ble_eq_true rfl) rfl ?_
                  refine jd_pF (n := 0) (As := []) (rest := [.int (nI (nS κ))]) (ct_J2_size hlS (show nS κ ≤ 900 by omega)) (jd_rv hlS 15 rfl rfl) (ci := 15) rfl (List.mem_of_getElem? (i := 2) rfl) rfl q339 q342 q344 q83 q346 q341 q345 q343 q207 ⟨by decide, by decide, by decide +kernel⟩ dX1_ringOf_39 rfl rfl (Nat.le_of_ble_eq_true rfl) ⟨(Nat.le_of_ble_eq_true rfl), (Nat.le_of_ble_eq_true rfl)⟩ ?_
                  refine jd_ncmp_ge (a := nS κ) (b := nS κ) (tgt := 93) dX1_ringOf_44 (by decide) (by omega) (by omega) (fun z12 => ?_) (fun z13 => ?_)
                  · have hcl2 : (∃ k, k < 12 ∧ T k ≠ true ∧ T3 k = true) ∨ T3 = T ∧ (∀ a b, a < p + 1 → b < nS κ → T a = true → linked κ a b = true → T b = true) := by
                      rcases hcl3 with hk | ⟨e2, hc2, hc3⟩
                      · exact Or.inl hk
                      · refine Or.inr ⟨e2, fun a b ha hb hta hl => ?_⟩
                        rcases Nat.lt_succ_iff_lt_or_eq.mp ha with w | w
                        · exact hc2 a b w hb hta hl
                        · subst w; exact hc3 b hb hta hl
                    refine jd_iincN (n := 1) (ls' := [_, _, _, _, _, _]) dX1_ringOf_93 rfl (Nat.le_of_ble_eq_true rfl) rfl rfl ?_
                    refine jd_goto (tgt := 16) dX1_ringOf_96 (by decide) ?_
                    refine jd_lsub [some (.ref (β 0 0)), some (.int (nI s)), some (.int ((ll_sB T3))), some (.int ((ll_sB T))), some (.int (nI (p + 1))), none] ⟨rfl, rfl, rfl, rfl, rfl, trivial⟩ ?_
                    exact ih16 (p + 1) (by omega) T3 h13 hR3 hcl2
                  · omega
                | succ j ih33 =>
                  intro q hq0 T3 h13 hR3 hcl3
                  refine jd_iload dX1_ringOf_33 rfl ?_
                  refine jd_aload_n dX1_ringOf_35 rfl ?_
                  refine jd_get in_X1 ((w_this hw)) 2 q285 dX1_ringOf_36 rfl (Nat.le_of_ble_eq_true rfl) rfl ?_
                  refine jd_pF (n := 0) (As := []) (rest := [.int (nI q)]) (ct_J2_size hlS (show nS κ ≤ 900 by omega)) (jd_rv hlS 15 rfl rfl) (ci := 15) rfl (List.mem_of_getElem? (i := 2) rfl) rfl q339 q342 q344 q83 q346 q341 q345 q343 q207 ⟨by decide, by decide, by decide +kernel⟩ dX1_ringOf_39 rfl rfl (Nat.le_of_ble_eq_true rfl) ⟨(Nat.le_of_ble_eq_true rfl), (Nat.le_of_ble_eq_true rfl)⟩ ?_
                  refine jd_ncmp_ge (a := q) (b := nS κ) (tgt := 93) dX1_ringOf_44 (by decide) (by omega) (by omega) (fun z14 => ?_) (fun z15 => ?_)
                  · omega
                  · refine jd_iload_n dX1_ringOf_47 rfl ?_
                    refine jd_iload dX1_ringOf_48 rfl ?_
                    refine jd_pS (As := [.int ((ll_sB T3)), .int (nI p)]) (rest := []) (ct_X1_has ((ll_sB T3)) (nI p)) rfl q482 q483 q80 q484 nX1_has dX1_ringOf_50 rfl rfl (Nat.le_of_ble_eq_true rfl) ⟨(Nat.le_of_ble_eq_true rfl), (Nat.le_of_ble_eq_true rfl)⟩ ?_
                    refine jd_bif_eq (tgt := 93) dX1_ringOf_53 (by decide) (fun z16 => ?_) (fun z17 => ?_)
                    · have hcl2 : (∃ k, k < 12 ∧ T k ≠ true ∧ T3 k = true) ∨ T3 = T ∧ (∀ a b, a < p + 1 → b < nS κ → T a = true → linked κ a b = true → T b = true) := by
                        rcases hcl3 with hk | ⟨e2, hc2, hc3⟩
                        · exact Or.inl hk
                        · refine Or.inr ⟨e2, fun a b ha hb hta hl => ?_⟩
                          rcases Nat.lt_succ_iff_lt_or_eq.mp ha with w | w
                          · exact hc2 a b w hb hta hl
                          · subst w; exact absurd ((ll_sB_has (by omega)).mpr (h13 a hta)) z16
                      refine jd_iincN (n := 1) (ls' := [_, _, _, _, _, _]) dX1_ringOf_93 rfl (Nat.le_of_ble_eq_true rfl) rfl rfl ?_
                      refine jd_goto (tgt := 16) dX1_ringOf_96 (by decide) ?_
                      refine jd_lsub [some (.ref (β 0 0)), some (.int (nI s)), some (.int ((ll_sB T3))), some (.int ((ll_sB T))), some (.int (nI (p + 1))), none] ⟨rfl, rfl, rfl, rfl, rfl, trivial⟩ ?_
                      exact ih16 (p + 1) (by omega) T3 h13 hR3 hcl2
                    · have hTp := (ll_sB_has (T := T3) (by omega)).mp z17
                      refine jd_iload_n dX1_ringOf_56 rfl ?_
                      refine jd_iload_n dX1_ringOf_57 rfl ?_
                      refine jd_iload dX1_ringOf_58 rfl ?_
                      refine jd_pS (As := [.int ((ll_sB T3)), .int (nI q)]) (rest := [.int ((ll_sB T3))]) (ct_X1_has ((ll_sB T3)) (nI q)) rfl q482 q483 q80 q484 nX1_has dX1_ringOf_60 rfl rfl (Nat.le_of_ble_eq_true rfl) ⟨(Nat.le_of_ble_eq_true rfl), (Nat.le_of_ble_eq_true rfl)⟩ ?_
                      refine jd_bif_ne (tgt := 84) dX1_ringOf_63 (by decide) (fun z18 => ?_) (fun z19 => ?_)
                      · have hcl4 : (∃ k, k < 12 ∧ T k ≠ true ∧ T3 k = true) ∨ T3 = T ∧ (∀ a b, a < p → b < nS κ → T a = true → linked κ a b = true → T b = true) ∧ ∀ b, b < q + 1 → T p = true → linked κ p b = true → T b = true := by
                          rcases hcl3 with hk | ⟨e2, hc2, hc3⟩
                          · exact Or.inl hk
                          · refine Or.inr ⟨e2, hc2, fun b hb hta hl => ?_⟩
                            rcases Nat.lt_succ_iff_lt_or_eq.mp hb with w | w
                            · exact hc3 b w hta hl
                            · subst w; rw [← e2]; exact (ll_sB_has (by omega)).mp z18
                        refine jd_iconst (v := 0) dX1_ringOf_84 (by decide) ?_
                        refine jd_ior dX1_ringOf_85 ?_
                        refine jd_istore_n (ls' := [_, _, _, _, _, _]) dX1_ringOf_86 (Nat.le_of_ble_eq_true rfl) rfl rfl ?_
                        refine jd_iincN (n := 1) (ls' := [_, _, _, _, _, _]) dX1_ringOf_87 rfl (Nat.le_of_ble_eq_true rfl) rfl rfl ?_
                        refine jd_goto (tgt := 33) dX1_ringOf_90 (by decide) ?_
                        refine jd_lsub [some (.ref (β 0 0)), some (.int (nI s)), some (.int ((ll_sB T3))), some (.int ((ll_sB T))), some (.int (nI p)), some (.int (nI (q + 1)))] ⟨rfl, rfl, (congrArg (fun x => some (Value.int x)) Int32.or_zero), rfl, rfl, rfl, trivial⟩ ?_
                        exact ih33 (q + 1) (by omega) T3 h13 hR3 hcl4
                      · have hTq : T3 q ≠ true := fun e => z19 ((ll_sB_has (by omega)).mpr e)
                        refine jd_aload_n dX1_ringOf_66 rfl ?_
                        refine jd_iload dX1_ringOf_67 rfl ?_
                        refine jd_iload dX1_ringOf_69 rfl ?_
                        refine jd_pV (As := [.int (nI p), .int (nI q)]) (rest := [.int ((ll_sB T3))]) (ct_X1_areLinked hw hI (p) (by omega) (q) (by omega)) (jd_rv ((w_this hw)) 0 rfl rfl) rfl q544 q546 qs26 q80 q547 nX1_areLinked dX1_ringOf_71 rfl rfl rfl (Nat.le_of_ble_eq_true rfl) ⟨(Nat.le_of_ble_eq_true rfl), (Nat.le_of_ble_eq_true rfl)⟩ ?_
                        refine jd_bif_eq (tgt := 84) dX1_ringOf_74 (by decide) (fun z20 => ?_) (fun z21 => ?_)
                        · have hcl4 : (∃ k, k < 12 ∧ T k ≠ true ∧ T3 k = true) ∨ T3 = T ∧ (∀ a b, a < p → b < nS κ → T a = true → linked κ a b = true → T b = true) ∧ ∀ b, b < q + 1 → T p = true → linked κ p b = true → T b = true := by
                            rcases hcl3 with hk | ⟨e2, hc2, hc3⟩
                            · exact Or.inl hk
                            · refine Or.inr ⟨e2, hc2, fun b hb hta hl => ?_⟩
                              rcases Nat.lt_succ_iff_lt_or_eq.mp hb with w | w
                              · exact hc3 b w hta hl
                              · subst w; exact absurd hl z20
                          refine jd_iconst (v := 0) dX1_ringOf_84 (by decide) ?_
                          refine jd_ior dX1_ringOf_85 ?_
                          refine jd_istore_n (ls' := [_, _, _, _, _, _]) dX1_ringOf_86 (Nat.le_of_ble_eq_true rfl) rfl rfl ?_
                          refine jd_iincN (n := 1) (ls' := [_, _, _, _, _, _]) dX1_ringOf_87 rfl (Nat.le_of_ble_eq_true rfl) rfl rfl ?_
                          refine jd_goto (tgt := 33) dX1_ringOf_90 (by decide) ?_
                          refine jd_lsub [some (.ref (β 0 0)), some (.int (nI s)), some (.int ((ll_sB T3))), some (.int ((ll_sB T))), some (.int (nI p)), some (.int (nI (q + 1)))] ⟨rfl, rfl, (congrArg (fun x => some (Value.int x)) Int32.or_zero), rfl, rfl, rfl, trivial⟩ ?_
                          exact ih33 (q + 1) (by omega) T3 h13 hR3 hcl4
                        · have h14 : ∀ x, T x = true → ll_ub T3 q x = true := fun x hx => by unfold ll_ub; split; rfl; exact h13 x hx
                          have hR4 : ∀ x, ll_ub T3 q x = true → Reach κ s x := fun x hx => by unfold ll_ub at hx; split at hx; (rename_i e; subst e; exact Reach.link (hR3 p hTp) (by omega) z21); exact hR3 x hx
                          have hcl4 : (∃ k, k < 12 ∧ T k ≠ true ∧ ll_ub T3 q k = true) ∨ ll_ub T3 q = T ∧ (∀ a b, a < p → b < nS κ → T a = true → linked κ a b = true → T b = true) ∧ ∀ b, b < q + 1 → T p = true → linked κ p b = true → T b = true := Or.inl ⟨q, by omega, fun e => hTq (h13 q e), by unfold ll_ub; rw [if_pos rfl]⟩
                          refine jd_iconst (v := 1) dX1_ringOf_77 (by decide) ?_
                          refine jd_iload dX1_ringOf_78 rfl ?_
                          refine jd_ishl dX1_ringOf_80 ?_
                          refine jd_goto (tgt := 85) dX1_ringOf_81 (by decide) ?_
                          refine jd_ior dX1_ringOf_85 ?_
                          refine jd_istore_n (ls' := [_, _, _, _, _, _]) dX1_ringOf_86 (Nat.le_of_ble_eq_true rfl) rfl rfl ?_
                          refine jd_iincN (n := 1) (ls' := [_, _, _, _, _, _]) dX1_ringOf_87 rfl (Nat.le_of_ble_eq_true rfl) rfl rfl ?_
                          refine jd_goto (tgt := 33) dX1_ringOf_90 (by decide) ?_
                          refine jd_lsub [some (.ref (β 0 0)), some (.int (nI s)), some (.int ((ll_sB (ll_ub T3 q)))), some (.int ((ll_sB T))), some (.int (nI p)), some (.int (nI (q + 1)))] ⟨rfl, rfl, (congrArg (fun x => some (Value.int x)) (ll_sB_or (by omega))), rfl, rfl, rfl, trivial⟩ ?_
                          exact ih33 (q + 1) (by omega) (ll_ub T3 q) h14 hR4 hcl4
              refine jd_lsub [some (.ref (β 0 0)), some (.int (nI s)), some (.int ((ll_sB T2))), some (.int ((ll_sB T))), some (.int (nI p)), some (.int (nI 0))] ⟨rfl, rfl, rfl, rfl, rfl, rfl, trivial⟩ ?_
              exact lp33_11 (nS κ) 0 (by omega) T2 h1 hR2 (hcl.imp id (fun w => ⟨w.1, w.2, fun b hb => absurd hb (Nat.not_lt_zero b)⟩))
        refine jd_lsub [some (.ref (β 0 0)), some (.int (nI s)), some (.int ((ll_sB T))), some (.int ((ll_sB T))), some (.int (nI 0)), none] ⟨rfl, rfl, rfl, rfl, rfl, trivial⟩ ?_
        exact lp16_6 (nS κ) 0 (by omega) T (fun _ h => h) hR (Or.inr ⟨rfl, fun a b ha => absurd ha (Nat.not_lt_zero a)⟩)
  refine jd_lsub [some (.ref (β 0 0)), some (.int (nI s)), some (.int ((ll_sB (fun x => decide (x = s))))), some (.int ((ll_sB (fun _ => false)))), none, none] ⟨rfl, rfl, (congrArg (fun x => some (Value.int x)) (ll_sB_one (by omega))), (congrArg (fun x => some (Value.int x)) ll_sB_zero), trivial⟩ ?_
  exact lp6_1 13 _ _ (decide_eq_true rfl) (fun x hx => by have := of_decide_eq_true hx; subst this; exact Reach.one) (fun e => by have := ll_sB_eq.mp e s (by omega); simp at this) (Or.inr (by have := ll_mi_le12 (fun x => decide (x = s)) 12; omega))

set_option maxRecDepth 20000 in
set_option maxHeartbeats 2000000 in
theorem ct_X1_sleeperNow {G : jd_G} {β : ll_B} {κ : ll_K} {h : jd_H} (hw : WC G β κ h) (hI : ll_I κ) (s : Nat) (hs : s < nS κ) (w : Nat) (hw8 : w ≤ 8) : jd_Ct G mX1_sleeperNow 5 (0) (0) [.ref (β 0 0), .int (nI s), .int (nI w)] h (jd_pu h (.int (sleeperVal κ s w))) jd_no := by
  obtain ⟨⟨hG8, hS12, hP24, hH40, hN99, hH24⟩, hIg, hIs, hIp, hIh, hIl, hIq⟩ := id hI
  obtain ⟨mcL, hlL⟩ := w_lands hw
  obtain ⟨mcG, hlG⟩ := w_gates hw
  obtain ⟨mcS, hlS⟩ := w_sleepers hw
  obtain ⟨mcP, hlP⟩ := w_parts hw
  obtain ⟨mcH, hlH⟩ := w_hidings hw
  refine jd_ct (ls := [some (.ref (β 0 0)), some (.int (nI s)), some (.int (nI w)), none]) rfl rfl (by decide) (Nat.le_of_ble_eq_true rfl) rfl ?_
  refine jd_aload_n dX1_sleeperNow_0 rfl ?_
  refine jd_get in_X1 ((w_this hw)) 2 q285 dX1_sleeperNow_1 rfl (Nat.le_of_ble_eq_true rfl) rfl ?_
  refine jd_iload_n dX1_sleeperNow_4 rfl ?_
  have hs1 := hIs s hs
  have hs2 := hs1.2.1
  refine jd_pF (n := 1) (As := [.int (nI s)]) (rest := []) (ct_J2_get hlS (show nS κ ≤ 900 by omega) (k := s) (show s < nS κ by omega)) (jd_rv hlS 15 rfl rfl) (ci := 15) rfl (List.mem_of_getElem? (i := 1) rfl) rfl q320 q323 q325 q83 q327 q322 q326 q324 q207 ⟨by decide, by decide, by decide +kernel⟩ dX1_sleeperNow_5 rfl rfl (Nat.le_of_ble_eq_true rfl) ⟨(Nat.le_of_ble_eq_true rfl), (Nat.le_of_ble_eq_true rfl)⟩ ?_
  refine jd_castS (jd_rv (((w_sleeper hw)) s (show s < nS κ by omega)) 4 rfl rfl) (ci := 4) rfl q352 dX1_sleeperNow_10 ?_
  refine jd_astore_n (ls' := [_, _, _, _]) dX1_sleeperNow_13 (Nat.le_of_ble_eq_true rfl) rfl rfl ?_
  refine jd_iload_n dX1_sleeperNow_14 rfl ?_
  rcases (by omega : w = 0 ∨ w = 1 ∨ w = 2 ∨ w = 3 ∨ w = 4 ∨ w = 5 ∨ w = 6 ∨ w = 7 ∨ w = 8) with e1 | e1 | e1 | e1 | e1 | e1 | e1 | e1 | e1
  · refine jd_tabN (w := w) (j := 0) (off := 45) (tgt := 60) dX1_sleeperNow_15 e1 (by decide) (by decide) (by decide) rfl (by decide) ?_
    refine jd_aload_n dX1_sleeperNow_60 rfl ?_
    refine jd_getN in_X9 (((w_sleeper hw)) s (show s < nS κ by omega)) 2 q854 dX1_sleeperNow_61 rfl (Nat.le_of_ble_eq_true rfl) rfl ?_
    exact jd_iret dX1_sleeperNow_64 rfl ⟨by subst e1; rfl, rfl⟩
  · refine jd_tabN (w := w) (j := 1) (off := 50) (tgt := 65) dX1_sleeperNow_15 e1 (by decide) (by decide) (by decide) rfl (by decide) ?_
    refine jd_aload_n dX1_sleeperNow_65 rfl ?_
    refine jd_getN in_X9 (((w_sleeper hw)) s (show s < nS κ by omega)) 3 q856 dX1_sleeperNow_66 rfl (Nat.le_of_ble_eq_true rfl) rfl ?_
    exact jd_iret dX1_sleeperNow_69 rfl ⟨by subst e1; rfl, rfl⟩
  · refine jd_tabN (w := w) (j := 2) (off := 55) (tgt := 70) dX1_sleeperNow_15 e1 (by decide) (by decide) (by decide) rfl (by decide) ?_
    refine jd_aload_n dX1_sleeperNow_70 rfl ?_
    refine jd_getN in_X9 (((w_sleeper hw)) s (show s < nS κ by omega)) 4 q858 dX1_sleeperNow_71 rfl (Nat.le_of_ble_eq_true rfl) rfl ?_
    refine jd_pU (n := 0) (As := []) (rest := []) (ct_J16_ordinalR (k := sRest κ s) (by first | assumption | omega)) (jd_rvR (k := sRest κ s) (by first | assumption | omega)) rfl q537 q538 q539 q422 q106 q423 ⟨by decide, by decide, by decide +kernel⟩ rfl dX1_sleeperNow_74 rfl rfl (Nat.le_of_ble_eq_true rfl) ⟨(Nat.le_of_ble_eq_true rfl), (Nat.le_of_ble_eq_true rfl)⟩ ?_
    exact jd_iret dX1_sleeperNow_77 rfl ⟨by subst e1; rfl, rfl⟩
  · refine jd_tabN (w := w) (j := 3) (off := 63) (tgt := 78) dX1_sleeperNow_15 e1 (by decide) (by decide) (by decide) rfl (by decide) ?_
    refine jd_aload_n dX1_sleeperNow_78 rfl ?_
    refine jd_getN in_X9 (((w_sleeper hw)) s (show s < nS κ by omega)) 5 q860 dX1_sleeperNow_79 rfl (Nat.le_of_ble_eq_true rfl) rfl ?_
    exact jd_iret dX1_sleeperNow_82 rfl ⟨by subst e1; rfl, rfl⟩
  · refine jd_tabN (w := w) (j := 4) (off := 68) (tgt := 83) dX1_sleeperNow_15 e1 (by decide) (by decide) (by decide) rfl (by decide) ?_
    refine jd_aload_n dX1_sleeperNow_83 rfl ?_
    refine jd_gets (jd_zR (k := 1) (by decide) rfl) q353 dX1_sleeperNow_84 ?_
    refine jd_pV (As := [.ref (jd_rA G 1)]) (rest := []) (ct_X9_is (((w_sleeper hw)) s (show s < nS κ by omega)) (r := sRest κ s) (q := 1) (by omega) (by decide)) (jd_rv (((w_sleeper hw)) s (show s < nS κ by omega)) 4 rfl rfl) rfl q355 q356 q357 q105 q358 nX9_is dX1_sleeperNow_87 rfl rfl rfl (Nat.le_of_ble_eq_true rfl) ⟨(Nat.le_of_ble_eq_true rfl), (Nat.le_of_ble_eq_true rfl)⟩ ?_
    refine jd_bif_eq (tgt := 116) dX1_sleeperNow_90 (by decide) (fun z2 => ?_) (fun z3 => ?_)
    · refine jd_iconst (v := (-1)) dX1_sleeperNow_116 (by decide) ?_
      exact jd_iret dX1_sleeperNow_117 rfl ⟨by subst e1; simp only [sleeperVal, hs1.2.2.2.2.1 z2], rfl⟩
    · obtain ⟨sg, hsg, hsg2, hsg3⟩ := hs1.2.2.2.1 z3
      refine jd_aload_n dX1_sleeperNow_93 rfl ?_
      refine jd_get in_X1 ((w_this hw)) 1 q284 dX1_sleeperNow_94 rfl (Nat.le_of_ble_eq_true rfl) rfl ?_
      refine jd_aload_n dX1_sleeperNow_97 rfl ?_
      refine jd_getN in_X9 (((w_sleeper hw)) s (show s < nS κ by omega)) 5 q860 dX1_sleeperNow_98 rfl (Nat.le_of_ble_eq_true rfl) rfl ?_
      refine jd_top (w := .int (nI sg)) (congrArg Value.int (by rw [hsg]; rfl)) ?_
      refine jd_pF (n := 1) (As := [.int (nI sg)]) (rest := []) (ct_J2_get hlG (show nG κ ≤ 900 by omega) (k := sg) (show sg < nG κ by omega)) (jd_rv hlG 15 rfl rfl) (ci := 15) rfl (List.mem_of_getElem? (i := 1) rfl) rfl q320 q323 q325 q83 q327 q322 q326 q324 q207 ⟨by decide, by decide, by decide +kernel⟩ dX1_sleeperNow_101 rfl rfl (Nat.le_of_ble_eq_true rfl) ⟨(Nat.le_of_ble_eq_true rfl), (Nat.le_of_ble_eq_true rfl)⟩ ?_
      refine jd_castS (jd_rv (((w_gate hw)) sg (show sg < nG κ by omega)) 3 rfl rfl) (ci := 3) rfl q347 dX1_sleeperNow_106 ?_
      refine jd_aload_n dX1_sleeperNow_109 rfl ?_
      refine jd_pV (As := [.ref (β 5 s)]) (rest := []) (ct_X7_place hw hI (sg) (s) (by omega) (by omega)) (jd_rv (((w_gate hw)) sg (show sg < nG κ by omega)) 3 rfl rfl) rfl q363 q364 q365 q103 q366 nX7_place dX1_sleeperNow_110 rfl rfl rfl (Nat.le_of_ble_eq_true rfl) ⟨(Nat.le_of_ble_eq_true rfl), (Nat.le_of_ble_eq_true rfl)⟩ ?_
      refine jd_goto (tgt := 117) dX1_sleeperNow_113 (by decide) ?_
      exact jd_iret dX1_sleeperNow_117 rfl ⟨by subst e1; simp only [sleeperVal, hsg], rfl⟩
  · refine jd_tabN (w := w) (j := 5) (off := 103) (tgt := 118) dX1_sleeperNow_15 e1 (by decide) (by decide) (by decide) rfl (by decide) ?_
    refine jd_aload_n dX1_sleeperNow_118 rfl ?_
    refine jd_iload_n dX1_sleeperNow_119 rfl ?_
    refine jd_pV (As := [.int (nI s)]) (rest := []) (ct_X1_headOf hw hI (s) (by omega)) (jd_rv ((w_this hw)) 0 rfl rfl) rfl q373 q375 qs5 q80 q376 nX1_headOf dX1_sleeperNow_120 rfl rfl rfl (Nat.le_of_ble_eq_true rfl) ⟨(Nat.le_of_ble_eq_true rfl), (Nat.le_of_ble_eq_true rfl)⟩ ?_
    exact jd_iret dX1_sleeperNow_123 rfl ⟨by subst e1; rfl, rfl⟩
  · refine jd_tabN (w := w) (j := 6) (off := 109) (tgt := 124) dX1_sleeperNow_15 e1 (by decide) (by decide) (by decide) rfl (by decide) ?_
    refine jd_aload_n dX1_sleeperNow_124 rfl ?_
    refine jd_getN in_X9 (((w_sleeper hw)) s (show s < nS κ by omega)) 7 q864 dX1_sleeperNow_125 rfl (Nat.le_of_ble_eq_true rfl) rfl ?_
    refine jd_pV (As := []) (rest := []) (ct_pres hw (k := s) (show s < nS κ by omega)) (w_rvO hw (k := s) (show s < nS κ by omega)) rfl q497 q498 q499 q108 q500 nJ17_isPresent dX1_sleeperNow_128 rfl rfl rfl (Nat.le_of_ble_eq_true rfl) ⟨(Nat.le_of_ble_eq_true rfl), (Nat.le_of_ble_eq_true rfl)⟩ ?_
    refine jd_bif_eq (tgt := 150) dX1_sleeperNow_131 (by decide) (fun z4 => ?_) (fun z5 => ?_)
    · refine jd_iconst (v := (-1)) dX1_sleeperNow_150 (by decide) ?_
      exact jd_iret dX1_sleeperNow_151 rfl ⟨by subst e1; simp only [sleeperVal]; rw [if_neg z4], rfl⟩
    · have hps : (sPass κ s).isSome = true := z5
      obtain ⟨hpb1, hpb2, hpb3⟩ := ps_bd hI hs hps
      refine jd_aload_n dX1_sleeperNow_134 rfl ?_
      refine jd_getN in_X9 (((w_sleeper hw)) s (show s < nS κ by omega)) 7 q864 dX1_sleeperNow_135 rfl (Nat.le_of_ble_eq_true rfl) rfl ?_
      refine jd_pV (As := []) (rest := []) (ct_J17_get (w_passI hw (k := s) (show s < nS κ by omega) (by assumption)).1) (w_rvO hw (k := s) (show s < nS κ by omega)) rfl q501 q502 q503 q108 q504 nJ17_get dX1_sleeperNow_138 rfl rfl rfl (Nat.le_of_ble_eq_true rfl) ⟨(Nat.le_of_ble_eq_true rfl), (Nat.le_of_ble_eq_true rfl)⟩ ?_
      refine jd_castS (jd_rv (w_passI hw (k := s) (show s < nS κ by omega) (by assumption)).2 6 rfl rfl) (ci := 6) rfl q505 dX1_sleeperNow_141 ?_
      refine jd_getN in_X13 (w_passI hw (k := s) (show s < nS κ by omega) (by assumption)).2 2 q958 dX1_sleeperNow_144 rfl (Nat.le_of_ble_eq_true rfl) rfl ?_
      refine jd_goto (tgt := 151) dX1_sleeperNow_147 (by decide) ?_
      exact jd_iret dX1_sleeperNow_151 rfl ⟨by subst e1; simp only [sleeperVal]; rw [if_pos z5], rfl⟩
  · refine jd_tabN (w := w) (j := 7) (off := 137) (tgt := 152) dX1_sleeperNow_15 e1 (by decide) (by decide) (by decide) rfl (by decide) ?_
    refine jd_aload_n dX1_sleeperNow_152 rfl ?_
    refine jd_iload_n dX1_sleeperNow_153 rfl ?_
    refine jd_pV (As := [.int (nI s)]) (rest := []) (ct_X1_ringOf hw hI (s) (by omega)) (jd_rv ((w_this hw)) 0 rfl rfl) rfl q540 q542 qs25 q80 q543 nX1_ringOf dX1_sleeperNow_154 rfl rfl rfl (Nat.le_of_ble_eq_true rfl) ⟨(Nat.le_of_ble_eq_true rfl), (Nat.le_of_ble_eq_true rfl)⟩ ?_
    exact jd_iret dX1_sleeperNow_157 rfl ⟨by subst e1; rfl, rfl⟩
  · refine jd_tabD (w := w) (j := 8) (tgt := 158) dX1_sleeperNow_15 e1 (by decide) (by decide) (by decide) ?_
    refine jd_aload_n dX1_sleeperNow_158 rfl ?_
    refine jd_iload_n dX1_sleeperNow_159 rfl ?_
    refine jd_pV (As := [.int (nI s)]) (rest := []) (ct_X1_hidingsOf hw hI (s) (by omega)) (jd_rv ((w_this hw)) 0 rfl rfl) rfl q554 q556 qs27 q80 q557 nX1_hidingsOf dX1_sleeperNow_160 rfl rfl rfl (Nat.le_of_ble_eq_true rfl) ⟨(Nat.le_of_ble_eq_true rfl), (Nat.le_of_ble_eq_true rfl)⟩ ?_
    exact jd_iret dX1_sleeperNow_163 rfl ⟨by subst e1; rfl, rfl⟩

set_option maxRecDepth 20000 in
set_option maxHeartbeats 2000000 in
theorem ct_X1_wouldPayNow {G : jd_G} {β : ll_B} {κ : ll_K} {h : jd_H} (hw : WC G β κ h) (hI : ll_I κ) (g : Nat) (hg : g < nG κ) : jd_Ct G mX1_wouldPayNow 4 (0) (0) [.ref (β 0 0), .int (nI g)] h (jd_pu h (.int (wouldPay κ g))) jd_no := by
  obtain ⟨⟨hG8, hS12, hP24, hH40, hN99, hH24⟩, hIg, hIs, hIp, hIh, hIl, hIq⟩ := id hI
  obtain ⟨mcL, hlL⟩ := w_lands hw
  obtain ⟨mcG, hlG⟩ := w_gates hw
  obtain ⟨mcS, hlS⟩ := w_sleepers hw
  obtain ⟨mcP, hlP⟩ := w_parts hw
  obtain ⟨mcH, hlH⟩ := w_hidings hw
  refine jd_ct (ls := [some (.ref (β 0 0)), some (.int (nI g)), none, none, none]) rfl rfl (by decide) (Nat.le_of_ble_eq_true rfl) rfl ?_
  refine jd_aload_n dX1_wouldPayNow_0 rfl ?_
  refine jd_get in_X1 ((w_this hw)) 1 q284 dX1_wouldPayNow_1 rfl (Nat.le_of_ble_eq_true rfl) rfl ?_
  refine jd_iload_n dX1_wouldPayNow_4 rfl ?_
  have hql := (hIg g hg).2.2.1
  refine jd_pF (n := 1) (As := [.int (nI g)]) (rest := []) (ct_J2_get hlG (show nG κ ≤ 900 by omega) (k := g) (show g < nG κ by omega)) (jd_rv hlG 15 rfl rfl) (ci := 15) rfl (List.mem_of_getElem? (i := 1) rfl) rfl q320 q323 q325 q83 q327 q322 q326 q324 q207 ⟨by decide, by decide, by decide +kernel⟩ dX1_wouldPayNow_5 rfl rfl (Nat.le_of_ble_eq_true rfl) ⟨(Nat.le_of_ble_eq_true rfl), (Nat.le_of_ble_eq_true rfl)⟩ ?_
  refine jd_castS (jd_rv (((w_gate hw)) g (show g < nG κ by omega)) 3 rfl rfl) (ci := 3) rfl q347 dX1_wouldPayNow_10 ?_
  refine jd_astore_n (ls' := [_, _, _, _, _]) dX1_wouldPayNow_13 (Nat.le_of_ble_eq_true rfl) rfl rfl ?_
  refine jd_aload_n dX1_wouldPayNow_14 rfl ?_
  refine jd_getN in_X7 (((w_gate hw)) g (show g < nG κ by omega)) 7 q792 dX1_wouldPayNow_15 rfl (Nat.le_of_ble_eq_true rfl) rfl ?_
  obtain ⟨mcq1, hqu1⟩ := w_queue hw g (show g < nG κ by omega)
  have hql1 := (hIg g (show g < nG κ by omega)).2.2.1
  refine jd_pF (n := 0) (As := []) (rest := []) (ct_J2_isEmpty hqu1 (by omega)) (jd_rv hqu1 15 rfl rfl) (ci := 15) rfl (List.mem_of_getElem? (i := 3) rfl) rfl q466 q469 q471 q83 q473 q468 q472 q470 q207 ⟨by decide, by decide, by decide +kernel⟩ dX1_wouldPayNow_18 rfl rfl (Nat.le_of_ble_eq_true rfl) ⟨(Nat.le_of_ble_eq_true rfl), (Nat.le_of_ble_eq_true rfl)⟩ ?_
  refine jd_bif_ne (tgt := 47) dX1_wouldPayNow_23 (by decide) (fun z2 => ?_) (fun z3 => ?_)
  · refine jd_iconst (v := 0) dX1_wouldPayNow_47 (by decide) ?_
    exact jd_iret dX1_wouldPayNow_48 rfl ⟨by rw [wouldPay, if_pos (Or.inl z2)], rfl⟩
  · refine jd_aload_n dX1_wouldPayNow_26 rfl ?_
    refine jd_aload_n dX1_wouldPayNow_27 rfl ?_
    refine jd_getN in_X7 (((w_gate hw)) g (show g < nG κ by omega)) 7 q792 dX1_wouldPayNow_28 rfl (Nat.le_of_ble_eq_true rfl) rfl ?_
    refine jd_iconst (v := 0) dX1_wouldPayNow_31 (by decide) ?_
    have hq2 := q_lt hI hg (j := 0) (by omega)
    have hs1 := (hIs _ hq2).1
    have hac := across_lt hI (g := g) (l := sLand κ (qAt κ g 0)) hg
    refine jd_pF (n := 1) (As := [.int (0)]) (rest := [.ref (β 0 0)]) (ct_J2_get hqu1 (by omega) (k := 0) (show 0 < (gQue κ g).length by omega)) (jd_rv hqu1 15 rfl rfl) (ci := 15) rfl (List.mem_of_getElem? (i := 1) rfl) rfl q320 q323 q325 q83 q327 q322 q326 q324 q207 ⟨by decide, by decide, by decide +kernel⟩ dX1_wouldPayNow_32 rfl rfl (Nat.le_of_ble_eq_true rfl) ⟨(Nat.le_of_ble_eq_true rfl), (Nat.le_of_ble_eq_true rfl)⟩ ?_
    refine jd_castS (jd_rv (((w_sleeper hw)) (qAt κ g 0) (show qAt κ g 0 < nS κ by omega)) 4 rfl rfl) (ci := 4) rfl q352 dX1_wouldPayNow_37 ?_
    refine jd_iload_n dX1_wouldPayNow_40 rfl ?_
    refine jd_pV (As := [.ref (β 5 (qAt κ g 0)), .int (nI g)]) (rest := []) (ct_X1_isGoodNow hw hI (qAt κ g 0) (g) (by omega) (by omega)) (jd_rv ((w_this hw)) 0 rfl rfl) rfl q493 q495 qs21 q80 q496 nX1_isGoodNow dX1_wouldPayNow_41 rfl rfl rfl (Nat.le_of_ble_eq_true rfl) ⟨(Nat.le_of_ble_eq_true rfl), (Nat.le_of_ble_eq_true rfl)⟩ ?_
    refine jd_bif_ne (tgt := 49) dX1_wouldPayNow_44 (by decide) (fun z4 => ?_) (fun z5 => ?_)
    · refine jd_aload_n dX1_wouldPayNow_49 rfl ?_
      refine jd_getN in_X7 (((w_gate hw)) g (show g < nG κ by omega)) 7 q792 dX1_wouldPayNow_50 rfl (Nat.le_of_ble_eq_true rfl) rfl ?_
      refine jd_iconst (v := 0) dX1_wouldPayNow_53 (by decide) ?_
      refine jd_pF (n := 1) (As := [.int (0)]) (rest := []) (ct_J2_get hqu1 (by omega) (k := 0) (show 0 < (gQue κ g).length by omega)) (jd_rv hqu1 15 rfl rfl) (ci := 15) rfl (List.mem_of_getElem? (i := 1) rfl) rfl q320 q323 q325 q83 q327 q322 q326 q324 q207 ⟨by decide, by decide, by decide +kernel⟩ dX1_wouldPayNow_54 rfl rfl (Nat.le_of_ble_eq_true rfl) ⟨(Nat.le_of_ble_eq_true rfl), (Nat.le_of_ble_eq_true rfl)⟩ ?_
      refine jd_castS (jd_rv (((w_sleeper hw)) (qAt κ g 0) (show qAt κ g 0 < nS κ by omega)) 4 rfl rfl) (ci := 4) rfl q352 dX1_wouldPayNow_59 ?_
      refine jd_astore_n (ls' := [_, _, _, _, _]) dX1_wouldPayNow_62 (Nat.le_of_ble_eq_true rfl) rfl rfl ?_
      refine jd_aload_n dX1_wouldPayNow_63 rfl ?_
      refine jd_get in_X1 ((w_this hw)) 0 q283 dX1_wouldPayNow_64 rfl (Nat.le_of_ble_eq_true rfl) rfl ?_
      refine jd_aload_n dX1_wouldPayNow_67 rfl ?_
      refine jd_aload_n dX1_wouldPayNow_68 rfl ?_
      refine jd_getN in_X9 (((w_sleeper hw)) (qAt κ g 0) (show qAt κ g 0 < nS κ by omega)) 2 q854 dX1_wouldPayNow_69 rfl (Nat.le_of_ble_eq_true rfl) rfl ?_
      refine jd_pV (As := [.int (nI ((sLand κ (qAt κ g 0))))]) (rest := [.ref (β 0 2)]) (ct_acr hw hI (g := g) (l := (sLand κ (qAt κ g 0))) (by omega) (by omega)) (jd_rv (((w_gate hw)) g (show g < nG κ by omega)) 3 rfl rfl) rfl q513 q514 q515 q103 q516 nX7_across dX1_wouldPayNow_72 rfl rfl rfl (Nat.le_of_ble_eq_true rfl) ⟨(Nat.le_of_ble_eq_true rfl), (Nat.le_of_ble_eq_true rfl)⟩ ?_
      refine jd_pF (n := 1) (As := [.int (nI ((acrossN κ g ((sLand κ (qAt κ g 0))))))]) (rest := []) (ct_J2_get hlL (show 6 ≤ 900 by omega) (k := (acrossN κ g ((sLand κ (qAt κ g 0))))) (show (acrossN κ g ((sLand κ (qAt κ g 0)))) < 6 by omega)) (jd_rv hlL 15 rfl rfl) (ci := 15) rfl (List.mem_of_getElem? (i := 1) rfl) rfl q320 q323 q325 q83 q327 q322 q326 q324 q207 ⟨by decide, by decide, by decide +kernel⟩ dX1_wouldPayNow_75 rfl rfl (Nat.le_of_ble_eq_true rfl) ⟨(Nat.le_of_ble_eq_true rfl), (Nat.le_of_ble_eq_true rfl)⟩ ?_
      refine jd_castS (jd_rv (((w_land hw)) ((acrossN κ g ((sLand κ (qAt κ g 0))))) (show (acrossN κ g ((sLand κ (qAt κ g 0)))) < 6 by omega)) 2 rfl rfl) (ci := 2) rfl q175 dX1_wouldPayNow_80 ?_
      refine jd_astore (ls' := [_, _, _, _, _]) dX1_wouldPayNow_83 (Nat.le_of_ble_eq_true rfl) rfl rfl ?_
      refine jd_aload dX1_wouldPayNow_85 rfl ?_
      refine jd_aload_n dX1_wouldPayNow_87 rfl ?_
      refine jd_aload_n dX1_wouldPayNow_88 rfl ?_
      refine jd_aload_n dX1_wouldPayNow_89 rfl ?_
      refine jd_getN in_X9 (((w_sleeper hw)) (qAt κ g 0) (show qAt κ g 0 < nS κ by omega)) 6 q862 dX1_wouldPayNow_90 rfl (Nat.le_of_ble_eq_true rfl) rfl ?_
      refine jd_aload dX1_wouldPayNow_93 rfl ?_
      refine jd_pV (As := [.int ((sDecl κ (qAt κ g 0))), .ref (β 1 ((acrossN κ g ((sLand κ (qAt κ g 0))))))]) (rest := [.ref (β 0 0), .ref (β 1 ((acrossN κ g ((sLand κ (qAt κ g 0))))))]) (ct_X1_allowed hw hI ((sDecl κ (qAt κ g 0))) (acrossN κ g ((sLand κ (qAt κ g 0)))) (by omega)) (jd_rv ((w_this hw)) 0 rfl rfl) rfl q517 q519 qs22 q80 q520 nX1_allowed dX1_wouldPayNow_95 rfl rfl rfl (Nat.le_of_ble_eq_true rfl) ⟨(Nat.le_of_ble_eq_true rfl), (Nat.le_of_ble_eq_true rfl)⟩ ?_
      refine jd_pV (As := [.int ((allowed κ ((sDecl κ (qAt κ g 0))) (acrossN κ g ((sLand κ (qAt κ g 0))))))]) (rest := [.ref (β 1 ((acrossN κ g ((sLand κ (qAt κ g 0))))))]) (ct_X1_worthOf hw hI ((allowed κ ((sDecl κ (qAt κ g 0))) (acrossN κ g ((sLand κ (qAt κ g 0))))))) (jd_rv ((w_this hw)) 0 rfl rfl) rfl q478 q480 qs19 q80 q481 nX1_worthOf dX1_wouldPayNow_98 rfl rfl rfl (Nat.le_of_ble_eq_true rfl) ⟨(Nat.le_of_ble_eq_true rfl), (Nat.le_of_ble_eq_true rfl)⟩ ?_
      refine jd_pV (As := [.int ((worthOf κ ((allowed κ ((sDecl κ (qAt κ g 0))) (acrossN κ g ((sLand κ (qAt κ g 0))))))))]) (rest := []) (ct_X3_duty (((w_land hw)) ((acrossN κ g ((sLand κ (qAt κ g 0))))) (show (acrossN κ g ((sLand κ (qAt κ g 0)))) < 6 by omega)) ((worthOf κ ((allowed κ ((sDecl κ (qAt κ g 0))) (acrossN κ g ((sLand κ (qAt κ g 0))))))))) (jd_rv (((w_land hw)) ((acrossN κ g ((sLand κ (qAt κ g 0))))) (show (acrossN κ g ((sLand κ (qAt κ g 0)))) < 6 by omega)) 2 rfl rfl) rfl q525 q526 q527 q85 q528 nX3_duty dX1_wouldPayNow_101 rfl rfl rfl (Nat.le_of_ble_eq_true rfl) ⟨(Nat.le_of_ble_eq_true rfl), (Nat.le_of_ble_eq_true rfl)⟩ ?_
      exact jd_iret dX1_wouldPayNow_104 rfl ⟨congrArg (fun x => some (Value.int x)) (if_neg (fun w => w.elim z3 (fun w2 => w2 z4)) : wouldPay κ g = _).symm, rfl⟩
    · refine jd_iconst (v := 0) dX1_wouldPayNow_47 (by decide) ?_
      exact jd_iret dX1_wouldPayNow_48 rfl ⟨by rw [wouldPay, if_pos (Or.inr z5)], rfl⟩

set_option maxRecDepth 20000 in
set_option maxHeartbeats 2000000 in
theorem ct_X1_isQueueSound {G : jd_G} {β : ll_B} {κ : ll_K} {h : jd_H} (hw : WC G β κ h) (hI : ll_I κ) (g : Nat) (hg : g < nG κ) : jd_Ct G mX1_isQueueSound 4 (0) (0) [.ref (β 0 0), .ref (β 2 g)] h (jd_pu h (.int 1)) jd_no := by
  obtain ⟨⟨hG8, hS12, hP24, hH40, hN99, hH24⟩, hIg, hIs, hIp, hIh, hIl, hIq⟩ := id hI
  obtain ⟨mcL, hlL⟩ := w_lands hw
  obtain ⟨mcG, hlG⟩ := w_gates hw
  obtain ⟨mcS, hlS⟩ := w_sleepers hw
  obtain ⟨mcP, hlP⟩ := w_parts hw
  obtain ⟨mcH, hlH⟩ := w_hidings hw
  have hIg2 := hIg g hg
  have hql := hIg2.2.2.1
  refine jd_ct (ls := [some (.ref (β 0 0)), some (.ref (β 2 g)), none, none, none]) rfl rfl (by decide) (Nat.le_of_ble_eq_true rfl) rfl ?_
  refine jd_iconst (v := 0) dX1_isQueueSound_0 (by decide) ?_
  refine jd_istore_n (ls' := [_, _, _, _, _]) dX1_isQueueSound_1 (Nat.le_of_ble_eq_true rfl) rfl rfl ?_
  have lp2_1 : ∀ (j : Nat) (k : Nat) (hk0 : k + j = (gQue κ g).length), jd_W G mX1_isQueueSound 4 (0) (0) 2 [some (.ref (β 0 0)), some (.ref (β 2 g)), some (.int (nI k)), none, none] [] h (jd_pu h (.int 1)) jd_no := by
    intro j
    induction j with
    | zero =>
      intro k hk0
      obtain rfl : k = (gQue κ g).length := by omega
      refine jd_iload_n dX1_isQueueSound_2 rfl ?_
      refine jd_aload_n dX1_isQueueSound_3 rfl ?_
      refine jd_getN in_X7 (((w_gate hw)) g (show g < nG κ by omega)) 7 q792 dX1_isQueueSound_4 rfl (Nat.le_of_ble_eq_true rfl) rfl ?_
      obtain ⟨mcq2, hqu2⟩ := w_queue hw g (show g < nG κ by omega)
      have hql2 := (hIg g (show g < nG κ by omega)).2.2.1
      refine jd_pF (n := 0) (As := []) (rest := [.int (nI ((gQue κ g).length))]) (ct_J2_size hqu2 (by omega)) (jd_rv hqu2 15 rfl rfl) (ci := 15) rfl (List.mem_of_getElem? (i := 2) rfl) rfl q339 q342 q344 q83 q346 q341 q345 q343 q207 ⟨by decide, by decide, by decide +kernel⟩ dX1_isQueueSound_7 rfl rfl (Nat.le_of_ble_eq_true rfl) ⟨(Nat.le_of_ble_eq_true rfl), (Nat.le_of_ble_eq_true rfl)⟩ ?_
      refine jd_ncmp_ge (a := (gQue κ g).length) (b := (gQue κ g).length) (tgt := 128) dX1_isQueueSound_12 (by decide) (by omega) (by omega) (fun z3 => ?_) (fun z4 => ?_)
      · refine jd_iconst (v := 1) dX1_isQueueSound_128 (by decide) ?_
        exact jd_zret dX1_isQueueSound_129 rfl (Or.inr rfl) ⟨rfl, rfl⟩
      · omega
    | succ j ih2 =>
      intro k hk0
      have hq2 := q_lt hI hg (j := k) (by omega)
      have hq3 := hIg2.2.2.2.2.1 _ (qAt_mem (k := g) (j := k) (by omega))
      have hs1 := hIs _ hq2
      have hs2 := hs1.2.1
      have hq4 : nI (gOne κ g) = nI (sLand κ (qAt κ g k)) ∨ nI (gOther κ g) = nI (sLand κ (qAt κ g k)) := hq3.2.2.2.imp (congrArg nI) (congrArg nI)
      refine jd_iload_n dX1_isQueueSound_2 rfl ?_
      refine jd_aload_n dX1_isQueueSound_3 rfl ?_
      refine jd_getN in_X7 (((w_gate hw)) g (show g < nG κ by omega)) 7 q792 dX1_isQueueSound_4 rfl (Nat.le_of_ble_eq_true rfl) rfl ?_
      obtain ⟨mcq5, hqu5⟩ := w_queue hw g (show g < nG κ by omega)
      have hql5 := (hIg g (show g < nG κ by omega)).2.2.1
      refine jd_pF (n := 0) (As := []) (rest := [.int (nI k)]) (ct_J2_size hqu5 (by omega)) (jd_rv hqu5 15 rfl rfl) (ci := 15) rfl (List.mem_of_getElem? (i := 2) rfl) rfl q339 q342 q344 q83 q346 q341 q345 q343 q207 ⟨by decide, by decide, by decide +kernel⟩ dX1_isQueueSound_7 rfl rfl (Nat.le_of_ble_eq_true rfl) ⟨(Nat.le_of_ble_eq_true rfl), (Nat.le_of_ble_eq_true rfl)⟩ ?_
      refine jd_ncmp_ge (a := k) (b := (gQue κ g).length) (tgt := 128) dX1_isQueueSound_12 (by decide) (by omega) (by omega) (fun z6 => ?_) (fun z7 => ?_)
      · omega
      · refine jd_aload_n dX1_isQueueSound_15 rfl ?_
        refine jd_getN in_X7 (((w_gate hw)) g (show g < nG κ by omega)) 7 q792 dX1_isQueueSound_16 rfl (Nat.le_of_ble_eq_true rfl) rfl ?_
        refine jd_iload_n dX1_isQueueSound_19 rfl ?_
        refine jd_pF (n := 1) (As := [.int (nI k)]) (rest := []) (ct_J2_get hqu5 (by omega) (k := k) (show k < (gQue κ g).length by omega)) (jd_rv hqu5 15 rfl rfl) (ci := 15) rfl (List.mem_of_getElem? (i := 1) rfl) rfl q320 q323 q325 q83 q327 q322 q326 q324 q207 ⟨by decide, by decide, by decide +kernel⟩ dX1_isQueueSound_20 rfl rfl (Nat.le_of_ble_eq_true rfl) ⟨(Nat.le_of_ble_eq_true rfl), (Nat.le_of_ble_eq_true rfl)⟩ ?_
        refine jd_castS (jd_rv (((w_sleeper hw)) (qAt κ g k) (show qAt κ g k < nS κ by omega)) 4 rfl rfl) (ci := 4) rfl q352 dX1_isQueueSound_25 ?_
        refine jd_astore_n (ls' := [_, _, _, _, _]) dX1_isQueueSound_28 (Nat.le_of_ble_eq_true rfl) rfl rfl ?_
        refine jd_iload_n dX1_isQueueSound_29 rfl ?_
        refine jd_mg1 66 (.int (jd_b ((¬ (k = 0) ∧ ((sBaby κ (qAt κ g k) = true) ∧ (¬ (sBaby κ (qAt κ g ((k - 1))) = true))))))) (fun hj8 => ?_) ?_
        · refine jd_nif_le (a := k) (tgt := 65) dX1_isQueueSound_30 (by decide) (by omega) (fun z9 => ?_) (fun z10 => ?_)
          · refine jd_iconst (v := 0) dX1_isQueueSound_65 (by decide) ?_
            exact jd_top (congrArg Value.int (jd_b0 (fun w => w.1 z9)).symm) hj8
          · refine jd_aload_n dX1_isQueueSound_33 rfl ?_
            refine jd_getN in_X9 (((w_sleeper hw)) (qAt κ g k) (show qAt κ g k < nS κ by omega)) 1 q852 dX1_isQueueSound_34 rfl (Nat.le_of_ble_eq_true rfl) rfl ?_
            refine jd_bif_eq (tgt := 65) dX1_isQueueSound_37 (by decide) (fun z11 => ?_) (fun z12 => ?_)
            · refine jd_iconst (v := 0) dX1_isQueueSound_65 (by decide) ?_
              exact jd_top (congrArg Value.int (jd_b0 (fun w => (fun w => z11 w.1) w.2)).symm) hj8
            · refine jd_aload_n dX1_isQueueSound_40 rfl ?_
              refine jd_getN in_X7 (((w_gate hw)) g (show g < nG κ by omega)) 7 q792 dX1_isQueueSound_41 rfl (Nat.le_of_ble_eq_true rfl) rfl ?_
              refine jd_iload_n dX1_isQueueSound_44 rfl ?_
              refine jd_iconst (v := 1) dX1_isQueueSound_45 (by decide) ?_
              refine jd_isubN (a := k) (b := 1) dX1_isQueueSound_46 (by omega) ?_
              have hq5 := q_lt hI hg (j := k - 1) (by omega)
              refine jd_pF (n := 1) (As := [.int (nI ((k - 1)))]) (rest := []) (ct_J2_get hqu5 (by omega) (k := (k - 1)) (show (k - 1) < (gQue κ g).length by omega)) (jd_rv hqu5 15 rfl rfl) (ci := 15) rfl (List.mem_of_getElem? (i := 1) rfl) rfl q320 q323 q325 q83 q327 q322 q326 q324 q207 ⟨by decide, by decide, by decide +kernel⟩ dX1_isQueueSound_47 rfl rfl (Nat.le_of_ble_eq_true rfl) ⟨(Nat.le_of_ble_eq_true rfl), (Nat.le_of_ble_eq_true rfl)⟩ ?_
              refine jd_castS (jd_rv (((w_sleeper hw)) (qAt κ g ((k - 1))) (show qAt κ g ((k - 1)) < nS κ by omega)) 4 rfl rfl) (ci := 4) rfl q352 dX1_isQueueSound_52 ?_
              refine jd_getN in_X9 (((w_sleeper hw)) (qAt κ g ((k - 1))) (show qAt κ g ((k - 1)) < nS κ by omega)) 1 q852 dX1_isQueueSound_55 rfl (Nat.le_of_ble_eq_true rfl) rfl ?_
              refine jd_bif_ne (tgt := 65) dX1_isQueueSound_58 (by decide) (fun z13 => ?_) (fun z14 => ?_)
              · refine jd_iconst (v := 0) dX1_isQueueSound_65 (by decide) ?_
                exact jd_top (congrArg Value.int (jd_b0 (fun w => (fun w => (fun w => w z13) w.2) w.2)).symm) hj8
              · refine jd_iconst (v := 1) dX1_isQueueSound_61 (by decide) ?_
                refine jd_goto (tgt := 66) dX1_isQueueSound_62 (by decide) ?_
                exact jd_top (congrArg Value.int (jd_b1 ⟨(by omega), ⟨z12, z14⟩⟩).symm) hj8
        · refine jd_istore (ls' := [_, _, _, _, _]) dX1_isQueueSound_66 (Nat.le_of_ble_eq_true rfl) rfl rfl ?_
          refine jd_iload dX1_isQueueSound_68 rfl ?_
          refine jd_bif_ne (tgt := 120) dX1_isQueueSound_70 (by decide) (fun z15 => ?_) (fun z16 => ?_)
          · exact absurd (q_baby hI hg (k := k) (by omega) z15.1 z15.2.1) z15.2.2
          · refine jd_aload_n dX1_isQueueSound_73 rfl ?_
            refine jd_gets (jd_zR (k := 1) (by decide) rfl) q353 dX1_isQueueSound_74 ?_
            refine jd_pV (As := [.ref (jd_rA G 1)]) (rest := []) (ct_X9_is (((w_sleeper hw)) (qAt κ g k) (show qAt κ g k < nS κ by omega)) (r := sRest κ (qAt κ g k)) (q := 1) (by omega) (by decide)) (jd_rv (((w_sleeper hw)) (qAt κ g k) (show qAt κ g k < nS κ by omega)) 4 rfl rfl) rfl q355 q356 q357 q105 q358 nX9_is dX1_isQueueSound_77 rfl rfl rfl (Nat.le_of_ble_eq_true rfl) ⟨(Nat.le_of_ble_eq_true rfl), (Nat.le_of_ble_eq_true rfl)⟩ ?_
            refine jd_bif_eq (tgt := 120) dX1_isQueueSound_80 (by decide) (fun z17 => ?_) (fun z18 => ?_)
            · exact absurd hq3.2.1 z17
            · refine jd_aload_n dX1_isQueueSound_83 rfl ?_
              refine jd_get in_X1 ((w_this hw)) 1 q284 dX1_isQueueSound_84 rfl (Nat.le_of_ble_eq_true rfl) rfl ?_
              refine jd_aload_n dX1_isQueueSound_87 rfl ?_
              refine jd_getN in_X9 (((w_sleeper hw)) (qAt κ g k) (show qAt κ g k < nS κ by omega)) 5 q860 dX1_isQueueSound_88 rfl (Nat.le_of_ble_eq_true rfl) rfl ?_
              refine jd_top (w := .int (nI g)) (congrArg Value.int (by rw [hq3.2.2.1]; rfl)) ?_
              refine jd_pF (n := 1) (As := [.int (nI g)]) (rest := []) (ct_J2_get hlG (show nG κ ≤ 900 by omega) (k := g) (show g < nG κ by omega)) (jd_rv hlG 15 rfl rfl) (ci := 15) rfl (List.mem_of_getElem? (i := 1) rfl) rfl q320 q323 q325 q83 q327 q322 q326 q324 q207 ⟨by decide, by decide, by decide +kernel⟩ dX1_isQueueSound_91 rfl rfl (Nat.le_of_ble_eq_true rfl) ⟨(Nat.le_of_ble_eq_true rfl), (Nat.le_of_ble_eq_true rfl)⟩ ?_
              refine jd_aload_n dX1_isQueueSound_96 rfl ?_
              refine jd_acmpI_ne (i := g) (j := g) (tgt := 120) (((w_gate hw)) g (show g < nG κ by omega)) (((w_gate hw)) g (show g < nG κ by omega)) dX1_isQueueSound_97 (by decide) (fun z19 => ?_) (fun z20 => ?_)
              · exact absurd rfl z19
              · refine jd_aload_n dX1_isQueueSound_100 rfl ?_
                refine jd_aload_n dX1_isQueueSound_101 rfl ?_
                refine jd_getN in_X9 (((w_sleeper hw)) (qAt κ g k) (show qAt κ g k < nS κ by omega)) 2 q854 dX1_isQueueSound_102 rfl (Nat.le_of_ble_eq_true rfl) rfl ?_
                refine jd_pV (As := [.int (nI ((sLand κ (qAt κ g k))))]) (rest := []) (ct_X7_hasLand (((w_gate hw)) g (show g < nG κ by omega)) (nI ((sLand κ (qAt κ g k))))) (jd_rv (((w_gate hw)) g (show g < nG κ by omega)) 3 rfl rfl) rfl q359 q360 q361 q103 q362 nX7_hasLand dX1_isQueueSound_105 rfl rfl rfl (Nat.le_of_ble_eq_true rfl) ⟨(Nat.le_of_ble_eq_true rfl), (Nat.le_of_ble_eq_true rfl)⟩ ?_
                refine jd_bif_eq (tgt := 120) dX1_isQueueSound_108 (by decide) (fun z21 => ?_) (fun z22 => ?_)
                · exact absurd hq4 z21
                · refine jd_aload_n dX1_isQueueSound_111 rfl ?_
                  refine jd_aload_n dX1_isQueueSound_112 rfl ?_
                  refine jd_pV (As := [.ref (β 5 (qAt κ g k))]) (rest := []) (ct_X7_place hw hI (g) (qAt κ g k) (by omega) (by omega)) (jd_rv (((w_gate hw)) g (show g < nG κ by omega)) 3 rfl rfl) rfl q363 q364 q365 q103 q366 nX7_place dX1_isQueueSound_113 rfl rfl rfl (Nat.le_of_ble_eq_true rfl) ⟨(Nat.le_of_ble_eq_true rfl), (Nat.le_of_ble_eq_true rfl)⟩ ?_
                  refine jd_iload_n dX1_isQueueSound_116 rfl ?_
                  refine jd_ocmp_eq (tgt := 122) dX1_isQueueSound_117 (by decide) (fun j hj => by have := ll_find_lt hj; have := (hIg (g) (by omega)).2.2.1; omega) (by omega) (fun z23 => ?_) (fun z24 => ?_)
                  · refine jd_iincN (n := 1) (ls' := [_, _, _, _, _]) dX1_isQueueSound_122 rfl (Nat.le_of_ble_eq_true rfl) rfl rfl ?_
                    refine jd_goto (tgt := 2) dX1_isQueueSound_125 (by decide) ?_
                    refine jd_lsub [some (.ref (β 0 0)), some (.ref (β 2 g)), some (.int (nI (k + 1))), none, none] ⟨rfl, rfl, rfl, trivial⟩ ?_
                    exact ih2 (k + 1) (by omega)
                  · exact absurd (place_at hI hg (by omega)) z24
  refine jd_lsub [some (.ref (β 0 0)), some (.ref (β 2 g)), some (.int (nI 0)), none, none] ⟨rfl, rfl, rfl, trivial⟩ ?_
  exact lp2_1 ((gQue κ g).length) 0 (by omega)

set_option maxRecDepth 20000 in
set_option maxHeartbeats 2000000 in
theorem ct_X1_isSoundNow {G : jd_G} {β : ll_B} {κ : ll_K} {h : jd_H} (hw : WC G β κ h) (hI : ll_I κ)  : jd_Ct G mX1_isSoundNow 5 (0) (0) [.ref (β 0 0)] h (jd_pu h (.int 1)) jd_no := by
  obtain ⟨⟨hG8, hS12, hP24, hH40, hN99, hH24⟩, hIg, hIs, hIp, hIh, hIl, hIq⟩ := id hI
  obtain ⟨mcL, hlL⟩ := w_lands hw
  obtain ⟨mcG, hlG⟩ := w_gates hw
  obtain ⟨mcS, hlS⟩ := w_sleepers hw
  obtain ⟨mcP, hlP⟩ := w_parts hw
  obtain ⟨mcH, hlH⟩ := w_hidings hw
  refine jd_ct (ls := [some (.ref (β 0 0)), none, none, none, none]) rfl rfl (by decide) (Nat.le_of_ble_eq_true rfl) rfl ?_
  refine jd_iconst (v := 0) dX1_isSoundNow_0 (by decide) ?_
  refine jd_istore_n (ls' := [_, _, _, _, _]) dX1_isSoundNow_1 (Nat.le_of_ble_eq_true rfl) rfl rfl ?_
  refine jd_iconst (v := 0) dX1_isSoundNow_2 (by decide) ?_
  refine jd_istore_n (ls' := [_, _, _, _, _]) dX1_isSoundNow_3 (Nat.le_of_ble_eq_true rfl) rfl rfl ?_
  have lp4_1 : ∀ (j : Nat) (k : Nat) (hk0 : k + j = 6), jd_W G mX1_isSoundNow 5 (0) (0) 4 [some (.ref (β 0 0)), some (.int ((ll_sum (fun p => lQuo κ p) k))), some (.int (nI k)), none, none] [] h (jd_pu h (.int 1)) jd_no := by
    intro j
    induction j with
    | zero =>
      intro k hk0
      obtain rfl : k = 6 := by omega
      refine jd_iload_n dX1_isSoundNow_4 rfl ?_
      refine jd_bipush (v := 6) dX1_isSoundNow_5 (by decide) ?_
      refine jd_ncmp_ge (a := 6) (b := 6) (tgt := 35) dX1_isSoundNow_7 (by decide) (by omega) (by omega) (fun z2 => ?_) (fun z3 => ?_)
      · refine jd_iload_n dX1_isSoundNow_35 rfl ?_
        refine jd_bipush (v := 30) dX1_isSoundNow_36 (by decide) ?_
        refine jd_icmp_ne (tgt := 59) dX1_isSoundNow_38 (by decide) (fun z4 => ?_) (fun z5 => ?_)
        · exact absurd (quo_sum hI) z4
        · refine jd_aload_n dX1_isSoundNow_41 rfl ?_
          refine jd_get in_X1 ((w_this hw)) 4 q287 dX1_isSoundNow_42 rfl (Nat.le_of_ble_eq_true rfl) rfl ?_
          refine jd_pF (n := 0) (As := []) (rest := []) (ct_J2_size hlH (show (hids κ).length ≤ 900 by omega)) (jd_rv hlH 15 rfl rfl) (ci := 15) rfl (List.mem_of_getElem? (i := 2) rfl) rfl q339 q342 q344 q83 q346 q341 q345 q343 q207 ⟨by decide, by decide, by decide +kernel⟩ dX1_isSoundNow_45 rfl rfl (Nat.le_of_ble_eq_true rfl) ⟨(Nat.le_of_ble_eq_true rfl), (Nat.le_of_ble_eq_true rfl)⟩ ?_
          refine jd_bipush (v := 40) dX1_isSoundNow_50 (by decide) ?_
          refine jd_ncmp_gt (a := (hids κ).length) (b := 40) (tgt := 59) dX1_isSoundNow_52 (by decide) (by omega) (by omega) (fun z6 => ?_) (fun z7 => ?_)
          · omega
          · refine jd_iconst (v := 1) dX1_isSoundNow_55 (by decide) ?_
            refine jd_goto (tgt := 60) dX1_isSoundNow_56 (by decide) ?_
            refine jd_istore_n (ls' := [_, _, _, _, _]) dX1_isSoundNow_60 (Nat.le_of_ble_eq_true rfl) rfl rfl ?_
            refine jd_iconst (v := 0) dX1_isSoundNow_61 (by decide) ?_
            refine jd_istore_n (ls' := [_, _, _, _, _]) dX1_isSoundNow_62 (Nat.le_of_ble_eq_true rfl) rfl rfl ?_
            have lp63_8 : ∀ (j : Nat) (x : Nat) (hx0 : x + j = nG κ), jd_W G mX1_isSoundNow 5 (0) (0) 63 [some (.ref (β 0 0)), some (.int ((ll_sum (fun p => lQuo κ p) 6))), some (.int (1)), some (.int (nI x)), none] [] h (jd_pu h (.int 1)) jd_no := by
              intro j
              induction j with
              | zero =>
                intro x hx0
                obtain rfl : x = nG κ := by omega
                refine jd_iload_n dX1_isSoundNow_63 rfl ?_
                refine jd_aload_n dX1_isSoundNow_64 rfl ?_
                refine jd_get in_X1 ((w_this hw)) 1 q284 dX1_isSoundNow_65 rfl (Nat.le_of_ble_eq_true rfl) rfl ?_
                refine jd_pF (n := 0) (As := []) (rest := [.int (nI (nG κ))]) (ct_J2_size hlG (show nG κ ≤ 900 by omega)) (jd_rv hlG 15 rfl rfl) (ci := 15) rfl (List.mem_of_getElem? (i := 2) rfl) rfl q339 q342 q344 q83 q346 q341 q345 q343 q207 ⟨by decide, by decide, by decide +kernel⟩ dX1_isSoundNow_68 rfl rfl (Nat.le_of_ble_eq_true rfl) ⟨(Nat.le_of_ble_eq_true rfl), (Nat.le_of_ble_eq_true rfl)⟩ ?_
                refine jd_ncmp_ge (a := nG κ) (b := nG κ) (tgt := 102) dX1_isSoundNow_73 (by decide) (by omega) (by omega) (fun z9 => ?_) (fun z10 => ?_)
                · refine jd_iconst (v := 0) dX1_isSoundNow_102 (by decide) ?_
                  refine jd_istore_n (ls' := [_, _, _, _, _]) dX1_isSoundNow_103 (Nat.le_of_ble_eq_true rfl) rfl rfl ?_
                  have lp104_11 : ∀ (j : Nat) (y : Nat) (hy0 : y + j = nS κ), jd_W G mX1_isSoundNow 5 (0) (0) 104 [some (.ref (β 0 0)), some (.int ((ll_sum (fun p => lQuo κ p) 6))), some (.int (1)), some (.int (nI y)), none] [] h (jd_pu h (.int 1)) jd_no := by
                    intro j
                    induction j with
                    | zero =>
                      intro y hy0
                      obtain rfl : y = nS κ := by omega
                      refine jd_iload_n dX1_isSoundNow_104 rfl ?_
                      refine jd_aload_n dX1_isSoundNow_105 rfl ?_
                      refine jd_get in_X1 ((w_this hw)) 2 q285 dX1_isSoundNow_106 rfl (Nat.le_of_ble_eq_true rfl) rfl ?_
                      refine jd_pF (n := 0) (As := []) (rest := [.int (nI (nS κ))]) (ct_J2_size hlS (show nS κ ≤ 900 by omega)) (jd_rv hlS 15 rfl rfl) (ci := 15) rfl (List.mem_of_getElem? (i := 2) rfl) rfl q339 q342 q344 q83 q346 q341 q345 q343 q207 ⟨by decide, by decide, by decide +kernel⟩ dX1_isSoundNow_109 rfl rfl (Nat.le_of_ble_eq_true rfl) ⟨(Nat.le_of_ble_eq_true rfl), (Nat.le_of_ble_eq_true rfl)⟩ ?_
                      refine jd_ncmp_ge (a := nS κ) (b := nS κ) (tgt := 183) dX1_isSoundNow_114 (by decide) (by omega) (by omega) (fun z12 => ?_) (fun z13 => ?_)
                      · refine jd_iload_n dX1_isSoundNow_183 rfl ?_
                        exact jd_zret dX1_isSoundNow_184 rfl (Or.inr rfl) ⟨rfl, rfl⟩
                      · omega
                    | succ j ih104 =>
                      intro y hy0
                      have hs1 := hIs y (by omega)
                      have hs2 := hs1.2.1
                      have hs3 := hs1.2.2.2.2.2.1
                      refine jd_iload_n dX1_isSoundNow_104 rfl ?_
                      refine jd_aload_n dX1_isSoundNow_105 rfl ?_
                      refine jd_get in_X1 ((w_this hw)) 2 q285 dX1_isSoundNow_106 rfl (Nat.le_of_ble_eq_true rfl) rfl ?_
                      refine jd_pF (n := 0) (As := []) (rest := [.int (nI y)]) (ct_J2_size hlS (show nS κ ≤ 900 by omega)) (jd_rv hlS 15 rfl rfl) (ci := 15) rfl (List.mem_of_getElem? (i := 2) rfl) rfl q339 q342 q344 q83 q346 q341 q345 q343 q207 ⟨by decide, by decide, by decide +kernel⟩ dX1_isSoundNow_109 rfl rfl (Nat.le_of_ble_eq_true rfl) ⟨(Nat.le_of_ble_eq_true rfl), (Nat.le_of_ble_eq_true rfl)⟩ ?_
                      refine jd_ncmp_ge (a := y) (b := nS κ) (tgt := 183) dX1_isSoundNow_114 (by decide) (by omega) (by omega) (fun z14 => ?_) (fun z15 => ?_)
                      · omega
                      · refine jd_aload_n dX1_isSoundNow_117 rfl ?_
                        refine jd_get in_X1 ((w_this hw)) 2 q285 dX1_isSoundNow_118 rfl (Nat.le_of_ble_eq_true rfl) rfl ?_
                        refine jd_iload_n dX1_isSoundNow_121 rfl ?_
                        refine jd_pF (n := 1) (As := [.int (nI y)]) (rest := []) (ct_J2_get hlS (show nS κ ≤ 900 by omega) (k := y) (show y < nS κ by omega)) (jd_rv hlS 15 rfl rfl) (ci := 15) rfl (List.mem_of_getElem? (i := 1) rfl) rfl q320 q323 q325 q83 q327 q322 q326 q324 q207 ⟨by decide, by decide, by decide +kernel⟩ dX1_isSoundNow_122 rfl rfl (Nat.le_of_ble_eq_true rfl) ⟨(Nat.le_of_ble_eq_true rfl), (Nat.le_of_ble_eq_true rfl)⟩ ?_
                        refine jd_castS (jd_rv (((w_sleeper hw)) y (show y < nS κ by omega)) 4 rfl rfl) (ci := 4) rfl q352 dX1_isSoundNow_127 ?_
                        refine jd_astore (ls' := [_, _, _, _, _]) dX1_isSoundNow_130 (Nat.le_of_ble_eq_true rfl) rfl rfl ?_
                        refine jd_iload_n dX1_isSoundNow_132 rfl ?_
                        refine jd_aload dX1_isSoundNow_133 rfl ?_
                        refine jd_getN in_X9 (((w_sleeper hw)) y (show y < nS κ by omega)) 3 q856 dX1_isSoundNow_135 rfl (Nat.le_of_ble_eq_true rfl) rfl ?_
                        refine jd_mg1 175 (.int (jd_b ((¬ ((sPat κ y) < 0) ∧ (¬ (9 < (sPat κ y)) ∧ (¬ ((sRest κ y = 2)) ∨ ((headOf κ y) = 0))))))) (fun hj16 => ?_) ?_
                        · refine jd_if_lt (tgt := 174) dX1_isSoundNow_138 (by decide) (fun z17 => ?_) (fun z18 => ?_)
                          · refine jd_iconst (v := 0) dX1_isSoundNow_174 (by decide) ?_
                            exact jd_top (congrArg Value.int (jd_b0 (fun w => w.1 z17)).symm) hj16
                          · refine jd_aload dX1_isSoundNow_141 rfl ?_
                            refine jd_getN in_X9 (((w_sleeper hw)) y (show y < nS κ by omega)) 3 q856 dX1_isSoundNow_143 rfl (Nat.le_of_ble_eq_true rfl) rfl ?_
                            refine jd_bipush (v := 9) dX1_isSoundNow_146 (by decide) ?_
                            refine jd_icmp_gt (tgt := 174) dX1_isSoundNow_148 (by decide) (fun z19 => ?_) (fun z20 => ?_)
                            · refine jd_iconst (v := 0) dX1_isSoundNow_174 (by decide) ?_
                              exact jd_top (congrArg Value.int (jd_b0 (fun w => (fun w => w.1 z19) w.2)).symm) hj16
                            · refine jd_aload dX1_isSoundNow_151 rfl ?_
                              refine jd_gets (jd_zR (k := 2) (by decide) rfl) q371 dX1_isSoundNow_153 ?_
                              refine jd_pV (As := [.ref (jd_rA G 2)]) (rest := [.int (1)]) (ct_X9_is (((w_sleeper hw)) y (show y < nS κ by omega)) (r := sRest κ y) (q := 2) (by omega) (by decide)) (jd_rv (((w_sleeper hw)) y (show y < nS κ by omega)) 4 rfl rfl) rfl q355 q356 q357 q105 q358 nX9_is dX1_isSoundNow_156 rfl rfl rfl (Nat.le_of_ble_eq_true rfl) ⟨(Nat.le_of_ble_eq_true rfl), (Nat.le_of_ble_eq_true rfl)⟩ ?_
                              refine jd_bif_eq (tgt := 170) dX1_isSoundNow_159 (by decide) (fun z21 => ?_) (fun z22 => ?_)
                              · refine jd_iconst (v := 1) dX1_isSoundNow_170 (by decide) ?_
                                refine jd_goto (tgt := 175) dX1_isSoundNow_171 (by decide) ?_
                                exact jd_top (congrArg Value.int (jd_b1 ⟨z18, ⟨z20, (Or.inl z21)⟩⟩).symm) hj16
                              · refine jd_aload_n dX1_isSoundNow_162 rfl ?_
                                refine jd_iload_n dX1_isSoundNow_163 rfl ?_
                                refine jd_pV (As := [.int (nI y)]) (rest := [.int (1)]) (ct_X1_headOf hw hI (y) (by omega)) (jd_rv ((w_this hw)) 0 rfl rfl) rfl q373 q375 qs5 q80 q376 nX1_headOf dX1_isSoundNow_164 rfl rfl rfl (Nat.le_of_ble_eq_true rfl) ⟨(Nat.le_of_ble_eq_true rfl), (Nat.le_of_ble_eq_true rfl)⟩ ?_
                                refine jd_if_ne (tgt := 174) dX1_isSoundNow_167 (by decide) (fun z23 => ?_) (fun z24 => ?_)
                                · refine jd_iconst (v := 0) dX1_isSoundNow_174 (by decide) ?_
                                  exact jd_top (congrArg Value.int (jd_b0 (fun w => (fun w => (fun w => w.elim (fun w1 => w1 z22) z23) w.2) w.2)).symm) hj16
                                · refine jd_iconst (v := 1) dX1_isSoundNow_170 (by decide) ?_
                                  refine jd_goto (tgt := 175) dX1_isSoundNow_171 (by decide) ?_
                                  exact jd_top (congrArg Value.int (jd_b1 ⟨z18, ⟨z20, (Or.inr z24)⟩⟩).symm) hj16
                        · refine jd_iand dX1_isSoundNow_175 ?_
                          refine jd_istore_n (ls' := [_, _, _, _, _]) dX1_isSoundNow_176 (Nat.le_of_ble_eq_true rfl) rfl rfl ?_
                          refine jd_iincN (n := 1) (ls' := [_, _, _, _, _]) dX1_isSoundNow_177 rfl (Nat.le_of_ble_eq_true rfl) rfl rfl ?_
                          refine jd_goto (tgt := 104) dX1_isSoundNow_180 (by decide) ?_
                          refine jd_lsub [some (.ref (β 0 0)), some (.int ((ll_sum (fun p => lQuo κ p) 6))), some (.int (1)), some (.int (nI (y + 1))), none] ⟨rfl, rfl, (congrArg (fun x => some (Value.int x)) (and_b1 ⟨Int32.not_lt.mpr hs3.1, Int32.not_lt.mpr hs3.2, snd_or hI (by omega)⟩)), rfl, trivial⟩ ?_
                          exact ih104 (y + 1) (by omega)
                  refine jd_lsub [some (.ref (β 0 0)), some (.int ((ll_sum (fun p => lQuo κ p) 6))), some (.int (1)), some (.int (nI 0)), none] ⟨rfl, rfl, rfl, rfl, trivial⟩ ?_
                  exact lp104_11 (nS κ) 0 (by omega)
                · omega
              | succ j ih63 =>
                intro x hx0
                refine jd_iload_n dX1_isSoundNow_63 rfl ?_
                refine jd_aload_n dX1_isSoundNow_64 rfl ?_
                refine jd_get in_X1 ((w_this hw)) 1 q284 dX1_isSoundNow_65 rfl (Nat.le_of_ble_eq_true rfl) rfl ?_
                refine jd_pF (n := 0) (As := []) (rest := [.int (nI x)]) (ct_J2_size hlG (show nG κ ≤ 900 by omega)) (jd_rv hlG 15 rfl rfl) (ci := 15) rfl (List.mem_of_getElem? (i := 2) rfl) rfl q339 q342 q344 q83 q346 q341 q345 q343 q207 ⟨by decide, by decide, by decide +kernel⟩ dX1_isSoundNow_68 rfl rfl (Nat.le_of_ble_eq_true rfl) ⟨(Nat.le_of_ble_eq_true rfl), (Nat.le_of_ble_eq_true rfl)⟩ ?_
                refine jd_ncmp_ge (a := x) (b := nG κ) (tgt := 102) dX1_isSoundNow_73 (by decide) (by omega) (by omega) (fun z25 => ?_) (fun z26 => ?_)
                · omega
                · refine jd_iload_n dX1_isSoundNow_76 rfl ?_
                  refine jd_aload_n dX1_isSoundNow_77 rfl ?_
                  refine jd_aload_n dX1_isSoundNow_78 rfl ?_
                  refine jd_get in_X1 ((w_this hw)) 1 q284 dX1_isSoundNow_79 rfl (Nat.le_of_ble_eq_true rfl) rfl ?_
                  refine jd_iload_n dX1_isSoundNow_82 rfl ?_
                  refine jd_pF (n := 1) (As := [.int (nI x)]) (rest := [.ref (β 0 0), .int (1)]) (ct_J2_get hlG (show nG κ ≤ 900 by omega) (k := x) (show x < nG κ by omega)) (jd_rv hlG 15 rfl rfl) (ci := 15) rfl (List.mem_of_getElem? (i := 1) rfl) rfl q320 q323 q325 q83 q327 q322 q326 q324 q207 ⟨by decide, by decide, by decide +kernel⟩ dX1_isSoundNow_83 rfl rfl (Nat.le_of_ble_eq_true rfl) ⟨(Nat.le_of_ble_eq_true rfl), (Nat.le_of_ble_eq_true rfl)⟩ ?_
                  refine jd_castS (jd_rv (((w_gate hw)) x (show x < nG κ by omega)) 3 rfl rfl) (ci := 3) rfl q347 dX1_isSoundNow_88 ?_
                  refine jd_pV (As := [.ref (β 2 x)]) (rest := [.int (1)]) (ct_X1_isQueueSound hw hI (x) (by omega)) (jd_rv ((w_this hw)) 0 rfl rfl) rfl q348 q350 qs4 q80 q351 nX1_isQueueSound dX1_isSoundNow_91 rfl rfl rfl (Nat.le_of_ble_eq_true rfl) ⟨(Nat.le_of_ble_eq_true rfl), (Nat.le_of_ble_eq_true rfl)⟩ ?_
                  refine jd_iand dX1_isSoundNow_94 ?_
                  refine jd_istore_n (ls' := [_, _, _, _, _]) dX1_isSoundNow_95 (Nat.le_of_ble_eq_true rfl) rfl rfl ?_
                  refine jd_iincN (n := 1) (ls' := [_, _, _, _, _]) dX1_isSoundNow_96 rfl (Nat.le_of_ble_eq_true rfl) rfl rfl ?_
                  refine jd_goto (tgt := 63) dX1_isSoundNow_99 (by decide) ?_
                  refine jd_lsub [some (.ref (β 0 0)), some (.int ((ll_sum (fun p => lQuo κ p) 6))), some (.int (1)), some (.int (nI (x + 1))), none] ⟨rfl, rfl, (by first | rfl | decide), rfl, trivial⟩ ?_
                  exact ih63 (x + 1) (by omega)
            refine jd_lsub [some (.ref (β 0 0)), some (.int ((ll_sum (fun p => lQuo κ p) 6))), some (.int (1)), some (.int (nI 0)), none] ⟨rfl, rfl, rfl, rfl, trivial⟩ ?_
            exact lp63_8 (nG κ) 0 (by omega)
      · omega
    | succ j ih4 =>
      intro k hk0
      refine jd_iload_n dX1_isSoundNow_4 rfl ?_
      refine jd_bipush (v := 6) dX1_isSoundNow_5 (by decide) ?_
      refine jd_ncmp_ge (a := k) (b := 6) (tgt := 35) dX1_isSoundNow_7 (by decide) (by omega) (by omega) (fun z27 => ?_) (fun z28 => ?_)
      · omega
      · refine jd_iload_n dX1_isSoundNow_10 rfl ?_
        refine jd_aload_n dX1_isSoundNow_11 rfl ?_
        refine jd_get in_X1 ((w_this hw)) 0 q283 dX1_isSoundNow_12 rfl (Nat.le_of_ble_eq_true rfl) rfl ?_
        refine jd_iload_n dX1_isSoundNow_15 rfl ?_
        refine jd_pF (n := 1) (As := [.int (nI k)]) (rest := [.int ((ll_sum (fun p => lQuo κ p) k))]) (ct_J2_get hlL (show 6 ≤ 900 by omega) (k := k) (show k < 6 by omega)) (jd_rv hlL 15 rfl rfl) (ci := 15) rfl (List.mem_of_getElem? (i := 1) rfl) rfl q320 q323 q325 q83 q327 q322 q326 q324 q207 ⟨by decide, by decide, by decide +kernel⟩ dX1_isSoundNow_16 rfl rfl (Nat.le_of_ble_eq_true rfl) ⟨(Nat.le_of_ble_eq_true rfl), (Nat.le_of_ble_eq_true rfl)⟩ ?_
        refine jd_castS (jd_rv (((w_land hw)) k (show k < 6 by omega)) 2 rfl rfl) (ci := 2) rfl q175 dX1_isSoundNow_21 ?_
        refine jd_getN in_X3 (((w_land hw)) k (show k < 6 by omega)) 2 q186 dX1_isSoundNow_24 rfl (Nat.le_of_ble_eq_true rfl) rfl ?_
        refine jd_iadd dX1_isSoundNow_27 ?_
        refine jd_istore_n (ls' := [_, _, _, _, _]) dX1_isSoundNow_28 (Nat.le_of_ble_eq_true rfl) rfl rfl ?_
        refine jd_iincN (n := 1) (ls' := [_, _, _, _, _]) dX1_isSoundNow_29 rfl (Nat.le_of_ble_eq_true rfl) rfl rfl ?_
        refine jd_goto (tgt := 4) dX1_isSoundNow_32 (by decide) ?_
        refine jd_lsub [some (.ref (β 0 0)), some (.int ((ll_sum (fun p => lQuo κ p) (k + 1)))), some (.int (nI (k + 1))), none, none] ⟨rfl, rfl, rfl, trivial⟩ ?_
        exact ih4 (k + 1) (by omega)
  refine jd_lsub [some (.ref (β 0 0)), some (.int ((ll_sum (fun p => lQuo κ p) 0))), some (.int (nI 0)), none, none] ⟨rfl, rfl, rfl, trivial⟩ ?_
  exact lp4_1 (6) 0 (by omega)
