/-! the component: the checksum (printed by mk_c.py) -/
set_option maxRecDepth 20000 in
set_option maxHeartbeats 2000000 in
theorem ct_X15_add {G : jd_G} {h : jd_H} {i : jd_Id} {a : Nat} {T : Int64} (ho : h i = some (a, sumE T)) (v : Int64) : jd_Ct G mX15_add 0 (0) (0) [.ref (a), .long (v)] h (jd_vd (jd_up h i (a, sumE (T * 31 + v)))) jd_no := by
  refine jd_ct (ls := [some (.ref (a)), some (.long (v)), none]) rfl rfl (by decide) (Nat.le_of_ble_eq_true rfl) rfl ?_
  refine jd_aload_n dX15_add_0 rfl ?_
  refine jd_aload_n dX15_add_1 rfl ?_
  refine jd_get in_X15 ho 0 q389 dX15_add_2 rfl (Nat.le_of_ble_eq_true rfl) rfl ?_
  refine jd_ldc2 q428 dX15_add_5 ?_
  refine jd_lmul dX15_add_8 ?_
  refine jd_lload_n dX15_add_9 rfl ?_
  refine jd_ladd dX15_add_10 ?_
  refine jd_put (fs' := [_]) in_X15 tyX15_ok nmX15 ho 0 q389 dX15_add_11 rfl (Nat.le_of_ble_eq_true rfl) rfl rfl rfl (Nat.le_of_ble_eq_true rfl) rfl ?_
  exact jd_vret dX15_add_14 rfl ⟨rfl, rfl⟩

set_option maxRecDepth 20000 in
set_option maxHeartbeats 2000000 in
theorem ct_X15_init {G : jd_G} {h : jd_H} {i : jd_Id} {a : Nat} (ho : h i = some (a, sumE 0)) : jd_Ct G mX15_init 1 (0) (0) [.ref (a)] h (jd_vd (jd_up h i (a, sumE 6007))) jd_no := by
  refine jd_ct (ls := [some (.ref (a))]) rfl rfl (by decide) (Nat.le_of_ble_eq_true rfl) rfl ?_
  refine jd_aload_n dX15_init_0 rfl ?_
  refine jd_oinit q387 q130 q131 dX15_init_1 (Nat.le_of_ble_eq_true rfl) ?_ (Nat.le_of_ble_eq_true rfl)
  refine jd_aload_n dX15_init_4 rfl ?_
  refine jd_ldc2 q388 dX15_init_5 ?_
  refine jd_put (fs' := [_]) in_X15 tyX15_ok nmX15 ho 0 q389 dX15_init_8 rfl (Nat.le_of_ble_eq_true rfl) rfl rfl rfl (Nat.le_of_ble_eq_true rfl) rfl ?_
  exact jd_vret dX15_init_11 rfl ⟨rfl, rfl⟩

set_option maxRecDepth 20000 in
set_option maxHeartbeats 2000000 in
theorem ct_X1_sumGates {G : jd_G} {β : ll_B} {κ : ll_K} {h : jd_H} (hw : WC G β κ h) (hI : ll_I κ) {q : Nat} (hq : h (0, q) = none) (T : Int64)  : jd_Ct G mX1_sumGates 6 (0) (0) [.ref (β 0 0), .ref (q)] (jd_up h (0, q) (q, sumE T)) (jd_vd (jd_up h (0, q) (q, sumE (dgGates κ T (nG κ))))) jd_no := by
  obtain ⟨⟨hG8, hS12, hP24, hH40, hN99, hH24⟩, hIg, hIs, hIp, hIh, hIl, hIq⟩ := id hI
  obtain ⟨mcL, hlL⟩ := w_lands hw
  obtain ⟨mcG, hlG⟩ := w_gates hw
  obtain ⟨mcS, hlS⟩ := w_sleepers hw
  obtain ⟨mcP, hlP⟩ := w_parts hw
  obtain ⟨mcH, hlH⟩ := w_hidings hw
  refine jd_ct (ls := [some (.ref (β 0 0)), some (.ref (q)), none, none]) rfl rfl (by decide) (Nat.le_of_ble_eq_true rfl) rfl ?_
  refine jd_iconst (v := 0) dX1_sumGates_0 (by decide) ?_
  refine jd_istore_n (ls' := [_, _, _, _]) dX1_sumGates_1 (Nat.le_of_ble_eq_true rfl) rfl rfl ?_
  have lp2_1 : ∀ (j : Nat) (g : Nat) (hg0 : g + j = nG κ), jd_W G mX1_sumGates 6 (0) (0) 2 [some (.ref (β 0 0)), some (.ref (q)), some (.int (nI g)), none] [] (jd_up h (0, q) (q, sumE (dgGates κ T g))) (jd_vd (jd_up h (0, q) (q, sumE (dgGates κ T (nG κ))))) jd_no := by
    intro j
    induction j with
    | zero =>
      intro g hg0
      obtain rfl : g = nG κ := by omega
      refine jd_iload_n dX1_sumGates_2 rfl ?_
      refine jd_aload_n dX1_sumGates_3 rfl ?_
      refine jd_get in_X1 (jd_tmp ((w_this hw))) 1 q284 dX1_sumGates_4 rfl (Nat.le_of_ble_eq_true rfl) rfl ?_
      refine jd_pF (n := 0) (As := []) (rest := [.int (nI (nG κ))]) (ct_J2_size (jd_tmp hlG) (show nG κ ≤ 900 by omega)) (jd_rv (jd_tmp hlG) 15 rfl rfl) (ci := 15) rfl (List.mem_of_getElem? (i := 2) rfl) rfl q339 q342 q344 q83 q346 q341 q345 q343 q207 ⟨by decide, by decide, by decide +kernel⟩ dX1_sumGates_7 rfl rfl (Nat.le_of_ble_eq_true rfl) ⟨(Nat.le_of_ble_eq_true rfl), (Nat.le_of_ble_eq_true rfl)⟩ ?_
      refine jd_ncmp_ge (a := nG κ) (b := nG κ) (tgt := 56) dX1_sumGates_12 (by decide) (by omega) (by omega) (fun z2 => ?_) (fun z3 => ?_)
      · exact jd_vret dX1_sumGates_56 rfl ⟨rfl, rfl⟩
      · omega
    | succ j ih2 =>
      intro g hg0
      refine jd_iload_n dX1_sumGates_2 rfl ?_
      refine jd_aload_n dX1_sumGates_3 rfl ?_
      refine jd_get in_X1 (jd_tmp ((w_this hw))) 1 q284 dX1_sumGates_4 rfl (Nat.le_of_ble_eq_true rfl) rfl ?_
      refine jd_pF (n := 0) (As := []) (rest := [.int (nI g)]) (ct_J2_size (jd_tmp hlG) (show nG κ ≤ 900 by omega)) (jd_rv (jd_tmp hlG) 15 rfl rfl) (ci := 15) rfl (List.mem_of_getElem? (i := 2) rfl) rfl q339 q342 q344 q83 q346 q341 q345 q343 q207 ⟨by decide, by decide, by decide +kernel⟩ dX1_sumGates_7 rfl rfl (Nat.le_of_ble_eq_true rfl) ⟨(Nat.le_of_ble_eq_true rfl), (Nat.le_of_ble_eq_true rfl)⟩ ?_
      refine jd_ncmp_ge (a := g) (b := nG κ) (tgt := 56) dX1_sumGates_12 (by decide) (by omega) (by omega) (fun z4 => ?_) (fun z5 => ?_)
      · omega
      · refine jd_iconst (v := 2) dX1_sumGates_15 (by decide) ?_
        refine jd_istore_n (ls' := [_, _, _, _]) dX1_sumGates_16 (Nat.le_of_ble_eq_true rfl) rfl rfl ?_
        have lp17_6 : ∀ (j : Nat) (x : Nat) (hx0 : x + j = 8), jd_W G mX1_sumGates 6 (0) (0) 17 [some (.ref (β 0 0)), some (.ref (q)), some (.int (nI g)), some (.int (nI (2 + x)))] [] (jd_up h (0, q) (q, sumE (ll_fd (fun w => gateVal κ g (2 + w)) (dgGates κ T g) x))) (jd_vd (jd_up h (0, q) (q, sumE (dgGates κ T (nG κ))))) jd_no := by
          intro j
          induction j with
          | zero =>
            intro x hx0
            obtain rfl : x = 8 := by omega
            refine jd_iload_n dX1_sumGates_17 rfl ?_
            refine jd_bipush (v := 9) dX1_sumGates_18 (by decide) ?_
            refine jd_ncmp_gt (a := 2 + 8) (b := 9) (tgt := 40) dX1_sumGates_20 (by decide) (by omega) (by omega) (fun z7 => ?_) (fun z8 => ?_)
            · refine jd_aload_n dX1_sumGates_40 rfl ?_
              refine jd_aload_n dX1_sumGates_41 rfl ?_
              refine jd_iload_n dX1_sumGates_42 rfl ?_
              refine jd_pV (As := [.int (nI g)]) (rest := [.ref (q)]) (ct_X1_wouldPayNow (WC.tmp hw hq) hI (g) (by omega)) (jd_rv (jd_tmp ((w_this hw))) 0 rfl rfl) rfl q489 q491 qs20 q80 q492 nX1_wouldPayNow dX1_sumGates_43 rfl rfl rfl (Nat.le_of_ble_eq_true rfl) ⟨(Nat.le_of_ble_eq_true rfl), (Nat.le_of_ble_eq_true rfl)⟩ ?_
              refine jd_i2l dX1_sumGates_46 ?_
              refine jd_callV (As := [.long (((wouldPay κ g)).toInt64)]) (rest := []) (ct_X15_add jd_up_s (((wouldPay κ g)).toInt64)) (jd_rv jd_up_s 8 rfl rfl) rfl q424 q425 q426 q123 q427 nX15_add dX1_sumGates_47 rfl rfl rfl (Nat.le_of_ble_eq_true rfl) ⟨(Nat.le_of_ble_eq_true rfl), (Nat.le_of_ble_eq_true rfl), by omega, by omega⟩ (fun rv8 hn8 hq8 => ?_) jd_nox
              obtain ⟨rfl, he8⟩ := hq8
              rw [he8, jd_up_up]
              refine jd_iincN (n := 1) (ls' := [_, _, _, _]) dX1_sumGates_50 rfl (Nat.le_of_ble_eq_true rfl) rfl rfl ?_
              refine jd_goto (tgt := 2) dX1_sumGates_53 (by decide) ?_
              refine jd_heq (h' := (jd_up h (0, q) (q, sumE (dgGates κ T ((g + 1)))))) rfl ?_
              refine jd_lsub [some (.ref (β 0 0)), some (.ref (q)), some (.int (nI (g + 1))), none] ⟨rfl, rfl, rfl, trivial⟩ ?_
              exact ih2 (g + 1) (by omega)
            · omega
          | succ j ih17 =>
            intro x hx0
            refine jd_iload_n dX1_sumGates_17 rfl ?_
            refine jd_bipush (v := 9) dX1_sumGates_18 (by decide) ?_
            refine jd_ncmp_gt (a := 2 + x) (b := 9) (tgt := 40) dX1_sumGates_20 (by decide) (by omega) (by omega) (fun z10 => ?_) (fun z11 => ?_)
            · omega
            · refine jd_aload_n dX1_sumGates_23 rfl ?_
              refine jd_aload_n dX1_sumGates_24 rfl ?_
              refine jd_iload_n dX1_sumGates_25 rfl ?_
              refine jd_iload_n dX1_sumGates_26 rfl ?_
              refine jd_pV (As := [.int (nI g), .int (nI (2 + x))]) (rest := [.ref (q)]) (ct_X1_gateNow (WC.tmp hw hq) hI (g) (by omega) (2 + x) (by omega)) (jd_rv (jd_tmp ((w_this hw))) 0 rfl rfl) rfl q453 q455 qs17 q80 q456 nX1_gateNow dX1_sumGates_27 rfl rfl rfl (Nat.le_of_ble_eq_true rfl) ⟨(Nat.le_of_ble_eq_true rfl), (Nat.le_of_ble_eq_true rfl)⟩ ?_
              refine jd_i2l dX1_sumGates_30 ?_
              refine jd_callV (As := [.long (((gateVal κ g (2 + x))).toInt64)]) (rest := []) (ct_X15_add jd_up_s (((gateVal κ g (2 + x))).toInt64)) (jd_rv jd_up_s 8 rfl rfl) rfl q424 q425 q426 q123 q427 nX15_add dX1_sumGates_31 rfl rfl rfl (Nat.le_of_ble_eq_true rfl) ⟨(Nat.le_of_ble_eq_true rfl), (Nat.le_of_ble_eq_true rfl), by omega, by omega⟩ (fun rv11 hn11 hq11 => ?_) jd_nox
              obtain ⟨rfl, he11⟩ := hq11
              rw [he11, jd_up_up]
              refine jd_iincN (n := 1) (ls' := [_, _, _, _]) dX1_sumGates_34 rfl (Nat.le_of_ble_eq_true rfl) rfl rfl ?_
              refine jd_goto (tgt := 17) dX1_sumGates_37 (by decide) ?_
              refine jd_heq (h' := (jd_up h (0, q) (q, sumE (ll_fd (fun w => gateVal κ g (2 + w)) (dgGates κ T g) ((x + 1)))))) rfl ?_
              refine jd_lsub [some (.ref (β 0 0)), some (.ref (q)), some (.int (nI g)), some (.int (nI (2 + (x + 1))))] ⟨rfl, rfl, rfl, rfl, trivial⟩ ?_
              exact ih17 (x + 1) (by omega)
        refine jd_heq (h' := (jd_up h (0, q) (q, sumE (ll_fd (fun w => gateVal κ g (2 + w)) (dgGates κ T g) 0)))) rfl ?_
        refine jd_lsub [some (.ref (β 0 0)), some (.ref (q)), some (.int (nI g)), some (.int (nI (2 + 0)))] ⟨rfl, rfl, rfl, rfl, trivial⟩ ?_
        exact lp17_6 (8) 0 (by omega)
  refine jd_heq (h' := (jd_up h (0, q) (q, sumE (dgGates κ T 0)))) rfl ?_
  refine jd_lsub [some (.ref (β 0 0)), some (.ref (q)), some (.int (nI 0)), none] ⟨rfl, rfl, rfl, trivial⟩ ?_
  exact lp2_1 (nG κ) 0 (by omega)

set_option maxRecDepth 20000 in
set_option maxHeartbeats 2000000 in
theorem ct_X1_sumSleepers {G : jd_G} {β : ll_B} {κ : ll_K} {h : jd_H} (hw : WC G β κ h) (hI : ll_I κ) {q : Nat} (hq : h (0, q) = none) (T : Int64)  : jd_Ct G mX1_sumSleepers 6 (0) (0) [.ref (β 0 0), .ref (q)] (jd_up h (0, q) (q, sumE T)) (jd_vd (jd_up h (0, q) (q, sumE (dgPt κ (dgSl κ T (nS κ)) (nP κ))))) jd_no := by
  obtain ⟨⟨hG8, hS12, hP24, hH40, hN99, hH24⟩, hIg, hIs, hIp, hIh, hIl, hIq⟩ := id hI
  obtain ⟨mcL, hlL⟩ := w_lands hw
  obtain ⟨mcG, hlG⟩ := w_gates hw
  obtain ⟨mcS, hlS⟩ := w_sleepers hw
  obtain ⟨mcP, hlP⟩ := w_parts hw
  obtain ⟨mcH, hlH⟩ := w_hidings hw
  refine jd_ct (ls := [some (.ref (β 0 0)), some (.ref (q)), none, none]) rfl rfl (by decide) (Nat.le_of_ble_eq_true rfl) rfl ?_
  refine jd_iconst (v := 0) dX1_sumSleepers_0 (by decide) ?_
  refine jd_istore_n (ls' := [_, _, _, _]) dX1_sumSleepers_1 (Nat.le_of_ble_eq_true rfl) rfl rfl ?_
  have lp2_1 : ∀ (j : Nat) (s : Nat) (hs0 : s + j = nS κ), jd_W G mX1_sumSleepers 6 (0) (0) 2 [some (.ref (β 0 0)), some (.ref (q)), some (.int (nI s)), none] [] (jd_up h (0, q) (q, sumE (dgSl κ T s))) (jd_vd (jd_up h (0, q) (q, sumE (dgPt κ (dgSl κ T (nS κ)) (nP κ))))) jd_no := by
    intro j
    induction j with
    | zero =>
      intro s hs0
      obtain rfl : s = nS κ := by omega
      refine jd_iload_n dX1_sumSleepers_2 rfl ?_
      refine jd_aload_n dX1_sumSleepers_3 rfl ?_
      refine jd_get in_X1 (jd_tmp ((w_this hw))) 2 q285 dX1_sumSleepers_4 rfl (Nat.le_of_ble_eq_true rfl) rfl ?_
      refine jd_pF (n := 0) (As := []) (rest := [.int (nI (nS κ))]) (ct_J2_size (jd_tmp hlS) (show nS κ ≤ 900 by omega)) (jd_rv (jd_tmp hlS) 15 rfl rfl) (ci := 15) rfl (List.mem_of_getElem? (i := 2) rfl) rfl q339 q342 q344 q83 q346 q341 q345 q343 q207 ⟨by decide, by decide, by decide +kernel⟩ dX1_sumSleepers_7 rfl rfl (Nat.le_of_ble_eq_true rfl) ⟨(Nat.le_of_ble_eq_true rfl), (Nat.le_of_ble_eq_true rfl)⟩ ?_
      refine jd_ncmp_ge (a := nS κ) (b := nS κ) (tgt := 46) dX1_sumSleepers_12 (by decide) (by omega) (by omega) (fun z2 => ?_) (fun z3 => ?_)
      · refine jd_iconst (v := 0) dX1_sumSleepers_46 (by decide) ?_
        refine jd_istore_n (ls' := [_, _, _, _]) dX1_sumSleepers_47 (Nat.le_of_ble_eq_true rfl) rfl rfl ?_
        have lp48_4 : ∀ (j : Nat) (p : Nat) (hp0 : p + j = nP κ), jd_W G mX1_sumSleepers 6 (0) (0) 48 [some (.ref (β 0 0)), some (.ref (q)), some (.int (nI p)), none] [] (jd_up h (0, q) (q, sumE (dgPt κ (dgSl κ T (nS κ)) p))) (jd_vd (jd_up h (0, q) (q, sumE (dgPt κ (dgSl κ T (nS κ)) (nP κ))))) jd_no := by
          intro j
          induction j with
          | zero =>
            intro p hp0
            obtain rfl : p = nP κ := by omega
            refine jd_iload_n dX1_sumSleepers_48 rfl ?_
            refine jd_aload_n dX1_sumSleepers_49 rfl ?_
            refine jd_get in_X1 (jd_tmp ((w_this hw))) 3 q286 dX1_sumSleepers_50 rfl (Nat.le_of_ble_eq_true rfl) rfl ?_
            refine jd_pF (n := 0) (As := []) (rest := [.int (nI (nP κ))]) (ct_J2_size (jd_tmp hlP) (show nP κ ≤ 900 by omega)) (jd_rv (jd_tmp hlP) 15 rfl rfl) (ci := 15) rfl (List.mem_of_getElem? (i := 2) rfl) rfl q339 q342 q344 q83 q346 q341 q345 q343 q207 ⟨by decide, by decide, by decide +kernel⟩ dX1_sumSleepers_53 rfl rfl (Nat.le_of_ble_eq_true rfl) ⟨(Nat.le_of_ble_eq_true rfl), (Nat.le_of_ble_eq_true rfl)⟩ ?_
            refine jd_ncmp_ge (a := nP κ) (b := nP κ) (tgt := 91) dX1_sumSleepers_58 (by decide) (by omega) (by omega) (fun z5 => ?_) (fun z6 => ?_)
            · exact jd_vret dX1_sumSleepers_91 rfl ⟨rfl, rfl⟩
            · omega
          | succ j ih48 =>
            intro p hp0
            refine jd_iload_n dX1_sumSleepers_48 rfl ?_
            refine jd_aload_n dX1_sumSleepers_49 rfl ?_
            refine jd_get in_X1 (jd_tmp ((w_this hw))) 3 q286 dX1_sumSleepers_50 rfl (Nat.le_of_ble_eq_true rfl) rfl ?_
            refine jd_pF (n := 0) (As := []) (rest := [.int (nI p)]) (ct_J2_size (jd_tmp hlP) (show nP κ ≤ 900 by omega)) (jd_rv (jd_tmp hlP) 15 rfl rfl) (ci := 15) rfl (List.mem_of_getElem? (i := 2) rfl) rfl q339 q342 q344 q83 q346 q341 q345 q343 q207 ⟨by decide, by decide, by decide +kernel⟩ dX1_sumSleepers_53 rfl rfl (Nat.le_of_ble_eq_true rfl) ⟨(Nat.le_of_ble_eq_true rfl), (Nat.le_of_ble_eq_true rfl)⟩ ?_
            refine jd_ncmp_ge (a := p) (b := nP κ) (tgt := 91) dX1_sumSleepers_58 (by decide) (by omega) (by omega) (fun z7 => ?_) (fun z8 => ?_)
            · omega
            · refine jd_iconst (v := 3) dX1_sumSleepers_61 (by decide) ?_
              refine jd_istore_n (ls' := [_, _, _, _]) dX1_sumSleepers_62 (Nat.le_of_ble_eq_true rfl) rfl rfl ?_
              have lp63_9 : ∀ (j : Nat) (x : Nat) (hx0 : x + j = 3), jd_W G mX1_sumSleepers 6 (0) (0) 63 [some (.ref (β 0 0)), some (.ref (q)), some (.int (nI p)), some (.int (nI (3 + x)))] [] (jd_up h (0, q) (q, sumE (ll_fd (fun w => partVal κ p (3 + w)) (dgPt κ (dgSl κ T (nS κ)) p) x))) (jd_vd (jd_up h (0, q) (q, sumE (dgPt κ (dgSl κ T (nS κ)) (nP κ))))) jd_no := by
                intro j
                induction j with
                | zero =>
                  intro x hx0
                  obtain rfl : x = 3 := by omega
                  refine jd_iload_n dX1_sumSleepers_63 rfl ?_
                  refine jd_iconst (v := 5) dX1_sumSleepers_64 (by decide) ?_
                  refine jd_ncmp_gt (a := 3 + 3) (b := 5) (tgt := 85) dX1_sumSleepers_65 (by decide) (by omega) (by omega) (fun z10 => ?_) (fun z11 => ?_)
                  · refine jd_iincN (n := 1) (ls' := [_, _, _, _]) dX1_sumSleepers_85 rfl (Nat.le_of_ble_eq_true rfl) rfl rfl ?_
                    refine jd_goto (tgt := 48) dX1_sumSleepers_88 (by decide) ?_
                    refine jd_heq (h' := (jd_up h (0, q) (q, sumE (dgPt κ (dgSl κ T (nS κ)) ((p + 1)))))) rfl ?_
                    refine jd_lsub [some (.ref (β 0 0)), some (.ref (q)), some (.int (nI (p + 1))), none] ⟨rfl, rfl, rfl, trivial⟩ ?_
                    exact ih48 (p + 1) (by omega)
                  · omega
                | succ j ih63 =>
                  intro x hx0
                  refine jd_iload_n dX1_sumSleepers_63 rfl ?_
                  refine jd_iconst (v := 5) dX1_sumSleepers_64 (by decide) ?_
                  refine jd_ncmp_gt (a := 3 + x) (b := 5) (tgt := 85) dX1_sumSleepers_65 (by decide) (by omega) (by omega) (fun z12 => ?_) (fun z13 => ?_)
                  · omega
                  · refine jd_aload_n dX1_sumSleepers_68 rfl ?_
                    refine jd_aload_n dX1_sumSleepers_69 rfl ?_
                    refine jd_iload_n dX1_sumSleepers_70 rfl ?_
                    refine jd_iload_n dX1_sumSleepers_71 rfl ?_
                    refine jd_pV (As := [.int (nI p), .int (nI (3 + x))]) (rest := [.ref (q)]) (ct_X1_partNow (WC.tmp hw hq) hI (p) (by omega) (3 + x) (by omega)) (jd_rv (jd_tmp ((w_this hw))) 0 rfl rfl) rfl q558 q560 qs28 q80 q561 nX1_partNow dX1_sumSleepers_72 rfl rfl rfl (Nat.le_of_ble_eq_true rfl) ⟨(Nat.le_of_ble_eq_true rfl), (Nat.le_of_ble_eq_true rfl)⟩ ?_
                    refine jd_i2l dX1_sumSleepers_75 ?_
                    refine jd_callV (As := [.long (((partVal κ p (3 + x))).toInt64)]) (rest := []) (ct_X15_add jd_up_s (((partVal κ p (3 + x))).toInt64)) (jd_rv jd_up_s 8 rfl rfl) rfl q424 q425 q426 q123 q427 nX15_add dX1_sumSleepers_76 rfl rfl rfl (Nat.le_of_ble_eq_true rfl) ⟨(Nat.le_of_ble_eq_true rfl), (Nat.le_of_ble_eq_true rfl), by omega, by omega⟩ (fun rv13 hn13 hq13 => ?_) jd_nox
                    obtain ⟨rfl, he13⟩ := hq13
                    rw [he13, jd_up_up]
                    refine jd_iincN (n := 1) (ls' := [_, _, _, _]) dX1_sumSleepers_79 rfl (Nat.le_of_ble_eq_true rfl) rfl rfl ?_
                    refine jd_goto (tgt := 63) dX1_sumSleepers_82 (by decide) ?_
                    refine jd_heq (h' := (jd_up h (0, q) (q, sumE (ll_fd (fun w => partVal κ p (3 + w)) (dgPt κ (dgSl κ T (nS κ)) p) ((x + 1)))))) rfl ?_
                    refine jd_lsub [some (.ref (β 0 0)), some (.ref (q)), some (.int (nI p)), some (.int (nI (3 + (x + 1))))] ⟨rfl, rfl, rfl, rfl, trivial⟩ ?_
                    exact ih63 (x + 1) (by omega)
              refine jd_heq (h' := (jd_up h (0, q) (q, sumE (ll_fd (fun w => partVal κ p (3 + w)) (dgPt κ (dgSl κ T (nS κ)) p) 0)))) rfl ?_
              refine jd_lsub [some (.ref (β 0 0)), some (.ref (q)), some (.int (nI p)), some (.int (nI (3 + 0)))] ⟨rfl, rfl, rfl, rfl, trivial⟩ ?_
              exact lp63_9 (3) 0 (by omega)
        refine jd_heq (h' := (jd_up h (0, q) (q, sumE (dgPt κ (dgSl κ T (nS κ)) 0)))) rfl ?_
        refine jd_lsub [some (.ref (β 0 0)), some (.ref (q)), some (.int (nI 0)), none] ⟨rfl, rfl, rfl, trivial⟩ ?_
        exact lp48_4 (nP κ) 0 (by omega)
      · omega
    | succ j ih2 =>
      intro s hs0
      refine jd_iload_n dX1_sumSleepers_2 rfl ?_
      refine jd_aload_n dX1_sumSleepers_3 rfl ?_
      refine jd_get in_X1 (jd_tmp ((w_this hw))) 2 q285 dX1_sumSleepers_4 rfl (Nat.le_of_ble_eq_true rfl) rfl ?_
      refine jd_pF (n := 0) (As := []) (rest := [.int (nI s)]) (ct_J2_size (jd_tmp hlS) (show nS κ ≤ 900 by omega)) (jd_rv (jd_tmp hlS) 15 rfl rfl) (ci := 15) rfl (List.mem_of_getElem? (i := 2) rfl) rfl q339 q342 q344 q83 q346 q341 q345 q343 q207 ⟨by decide, by decide, by decide +kernel⟩ dX1_sumSleepers_7 rfl rfl (Nat.le_of_ble_eq_true rfl) ⟨(Nat.le_of_ble_eq_true rfl), (Nat.le_of_ble_eq_true rfl)⟩ ?_
      refine jd_ncmp_ge (a := s) (b := nS κ) (tgt := 46) dX1_sumSleepers_12 (by decide) (by omega) (by omega) (fun z15 => ?_) (fun z16 => ?_)
      · omega
      · refine jd_iconst (v := 0) dX1_sumSleepers_15 (by decide) ?_
        refine jd_istore_n (ls' := [_, _, _, _]) dX1_sumSleepers_16 (Nat.le_of_ble_eq_true rfl) rfl rfl ?_
        have lp17_17 : ∀ (j : Nat) (x : Nat) (hx0 : x + j = 9), jd_W G mX1_sumSleepers 6 (0) (0) 17 [some (.ref (β 0 0)), some (.ref (q)), some (.int (nI s)), some (.int (nI x))] [] (jd_up h (0, q) (q, sumE (ll_fd (fun w => sleeperVal κ s w) (dgSl κ T s) x))) (jd_vd (jd_up h (0, q) (q, sumE (dgPt κ (dgSl κ T (nS κ)) (nP κ))))) jd_no := by
          intro j
          induction j with
          | zero =>
            intro x hx0
            obtain rfl : x = 9 := by omega
            refine jd_iload_n dX1_sumSleepers_17 rfl ?_
            refine jd_bipush (v := 8) dX1_sumSleepers_18 (by decide) ?_
            refine jd_ncmp_gt (a := 9) (b := 8) (tgt := 40) dX1_sumSleepers_20 (by decide) (by omega) (by omega) (fun z18 => ?_) (fun z19 => ?_)
            · refine jd_iincN (n := 1) (ls' := [_, _, _, _]) dX1_sumSleepers_40 rfl (Nat.le_of_ble_eq_true rfl) rfl rfl ?_
              refine jd_goto (tgt := 2) dX1_sumSleepers_43 (by decide) ?_
              refine jd_heq (h' := (jd_up h (0, q) (q, sumE (dgSl κ T ((s + 1)))))) rfl ?_
              refine jd_lsub [some (.ref (β 0 0)), some (.ref (q)), some (.int (nI (s + 1))), none] ⟨rfl, rfl, rfl, trivial⟩ ?_
              exact ih2 (s + 1) (by omega)
            · omega
          | succ j ih17 =>
            intro x hx0
            refine jd_iload_n dX1_sumSleepers_17 rfl ?_
            refine jd_bipush (v := 8) dX1_sumSleepers_18 (by decide) ?_
            refine jd_ncmp_gt (a := x) (b := 8) (tgt := 40) dX1_sumSleepers_20 (by decide) (by omega) (by omega) (fun z20 => ?_) (fun z21 => ?_)
            · omega
            · refine jd_aload_n dX1_sumSleepers_23 rfl ?_
              refine jd_aload_n dX1_sumSleepers_24 rfl ?_
              refine jd_iload_n dX1_sumSleepers_25 rfl ?_
              refine jd_iload_n dX1_sumSleepers_26 rfl ?_
              refine jd_pV (As := [.int (nI s), .int (nI x)]) (rest := [.ref (q)]) (ct_X1_sleeperNow (WC.tmp hw hq) hI (s) (by omega) (x) (by omega)) (jd_rv (jd_tmp ((w_this hw))) 0 rfl rfl) rfl q533 q535 qs24 q80 q536 nX1_sleeperNow dX1_sumSleepers_27 rfl rfl rfl (Nat.le_of_ble_eq_true rfl) ⟨(Nat.le_of_ble_eq_true rfl), (Nat.le_of_ble_eq_true rfl)⟩ ?_
              refine jd_i2l dX1_sumSleepers_30 ?_
              refine jd_callV (As := [.long (((sleeperVal κ s x)).toInt64)]) (rest := []) (ct_X15_add jd_up_s (((sleeperVal κ s x)).toInt64)) (jd_rv jd_up_s 8 rfl rfl) rfl q424 q425 q426 q123 q427 nX15_add dX1_sumSleepers_31 rfl rfl rfl (Nat.le_of_ble_eq_true rfl) ⟨(Nat.le_of_ble_eq_true rfl), (Nat.le_of_ble_eq_true rfl), by omega, by omega⟩ (fun rv21 hn21 hq21 => ?_) jd_nox
              obtain ⟨rfl, he21⟩ := hq21
              rw [he21, jd_up_up]
              refine jd_iincN (n := 1) (ls' := [_, _, _, _]) dX1_sumSleepers_34 rfl (Nat.le_of_ble_eq_true rfl) rfl rfl ?_
              refine jd_goto (tgt := 17) dX1_sumSleepers_37 (by decide) ?_
              refine jd_heq (h' := (jd_up h (0, q) (q, sumE (ll_fd (fun w => sleeperVal κ s w) (dgSl κ T s) ((x + 1)))))) rfl ?_
              refine jd_lsub [some (.ref (β 0 0)), some (.ref (q)), some (.int (nI s)), some (.int (nI (x + 1)))] ⟨rfl, rfl, rfl, rfl, trivial⟩ ?_
              exact ih17 (x + 1) (by omega)
        refine jd_heq (h' := (jd_up h (0, q) (q, sumE (ll_fd (fun w => sleeperVal κ s w) (dgSl κ T s) 0)))) rfl ?_
        refine jd_lsub [some (.ref (β 0 0)), some (.ref (q)), some (.int (nI s)), some (.int (nI 0))] ⟨rfl, rfl, rfl, rfl, trivial⟩ ?_
        exact lp17_17 (9) 0 (by omega)
  refine jd_heq (h' := (jd_up h (0, q) (q, sumE (dgSl κ T 0)))) rfl ?_
  refine jd_lsub [some (.ref (β 0 0)), some (.ref (q)), some (.int (nI 0)), none] ⟨rfl, rfl, rfl, trivial⟩ ?_
  exact lp2_1 (nS κ) 0 (by omega)

set_option maxRecDepth 20000 in
set_option maxHeartbeats 2000000 in
theorem ct_X1_digest {G : jd_G} {β : ll_B} {κ : ll_K} {h : jd_H} (hw : WC G β κ h) (hI : ll_I κ)  : jd_Ct G mX1_digest 8 (12) (745) [.ref (β 0 0)] h (jd_pu h (.long (digestV κ))) jd_no := by
  obtain ⟨⟨hG8, hS12, hP24, hH40, hN99, hH24⟩, hIg, hIs, hIp, hIh, hIl, hIq⟩ := id hI
  obtain ⟨mcL, hlL⟩ := w_lands hw
  obtain ⟨mcG, hlG⟩ := w_gates hw
  obtain ⟨mcS, hlS⟩ := w_sleepers hw
  obtain ⟨mcP, hlP⟩ := w_parts hw
  obtain ⟨mcH, hlH⟩ := w_hidings hw
  refine jd_ct (ls := [some (.ref (β 0 0)), none, none, none]) rfl rfl (by decide) (Nat.le_of_ble_eq_true rfl) rfl ?_
  refine jd_new (fs := [.long (0)]) in_X15 tyX15_ok q382 q383 q123 dX1_digest_0 8 rfl rfl (by omega) (by omega) (fun q hq => ?_)
  refine jd_dup dX1_digest_3 rfl ?_
  refine jd_callN (As := []) (rest := [.ref (q)]) (ct_X15_init jd_up_s) rfl rfl q384 q385 q123 q386 nX15_init dX1_digest_4 rfl rfl (Nat.le_of_ble_eq_true rfl) ⟨(Nat.le_of_ble_eq_true rfl), (Nat.le_of_ble_eq_true rfl), by omega, by omega⟩ (fun rv0 hn0 hq0 => ?_) jd_nox
  obtain ⟨rfl, he0⟩ := hq0
  rw [he0, jd_up_up]
  refine jd_astore_n (ls' := [_, _, _, _]) dX1_digest_7 (Nat.le_of_ble_eq_true rfl) rfl rfl ?_
  refine jd_iconst (v := 0) dX1_digest_8 (by decide) ?_
  refine jd_istore_n (ls' := [_, _, _, _]) dX1_digest_9 (Nat.le_of_ble_eq_true rfl) rfl rfl ?_
  have lp10_2 : ∀ (j : Nat) (x : Nat) (hx0 : x + j = 17), jd_W G mX1_digest 8 (12 - 1 - 0) (745 - 1 - 0) 10 [some (.ref (β 0 0)), some (.ref (q)), some (.int (nI x)), none] [] (jd_up h (0, q) (q, sumE (ll_fd (fun w => nightVal κ w) 6007 x))) (jd_pu h (.long (digestV κ))) jd_no := by
    intro j
    induction j with
    | zero =>
      intro x hx0
      obtain rfl : x = 17 := by omega
      refine jd_iload_n dX1_digest_10 rfl ?_
      refine jd_bipush (v := 16) dX1_digest_11 (by decide) ?_
      refine jd_ncmp_gt (a := 17) (b := 16) (tgt := 32) dX1_digest_13 (by decide) (by omega) (by omega) (fun z3 => ?_) (fun z4 => ?_)
      · refine jd_iconst (v := 0) dX1_digest_32 (by decide) ?_
        refine jd_istore_n (ls' := [_, _, _, _]) dX1_digest_33 (Nat.le_of_ble_eq_true rfl) rfl rfl ?_
        have lp34_5 : ∀ (j : Nat) (l : Nat) (hl0 : l + j = 6), jd_W G mX1_digest 8 (12 - 1 - 0) (745 - 1 - 0) 34 [some (.ref (β 0 0)), some (.ref (q)), some (.int (nI l)), none] [] (jd_up h (0, q) (q, sumE (dgLands κ (ll_fd (fun w => nightVal κ w) 6007 17) l))) (jd_pu h (.long (digestV κ))) jd_no := by
          intro j
          induction j with
          | zero =>
            intro l hl0
            obtain rfl : l = 6 := by omega
            refine jd_iload_n dX1_digest_34 rfl ?_
            refine jd_bipush (v := 6) dX1_digest_35 (by decide) ?_
            refine jd_ncmp_ge (a := 6) (b := 6) (tgt := 71) dX1_digest_37 (by decide) (by omega) (by omega) (fun z6 => ?_) (fun z7 => ?_)
            · refine jd_aload_n dX1_digest_71 rfl ?_
              refine jd_aload_n dX1_digest_72 rfl ?_
              refine jd_callV (As := [.ref (q)]) (rest := []) (ct_X1_sumGates hw hI hq (dgLands κ (ll_fd (fun w => nightVal κ w) 6007 17) 6)) (jd_rv (jd_tmp ((w_this hw))) 0 rfl rfl) rfl q449 q451 qs16 q80 q452 nX1_sumGates dX1_digest_73 rfl rfl rfl (Nat.le_of_ble_eq_true rfl) ⟨(Nat.le_of_ble_eq_true rfl), (Nat.le_of_ble_eq_true rfl), by omega, by omega⟩ (fun rv7 hn7 hq7 => ?_) jd_nox
              obtain ⟨rfl, he7⟩ := hq7
              rw [he7]
              refine jd_aload_n dX1_digest_76 rfl ?_
              refine jd_aload_n dX1_digest_77 rfl ?_
              refine jd_callV (As := [.ref (q)]) (rest := []) (ct_X1_sumSleepers hw hI hq (dgGates κ (dgLands κ (ll_fd (fun w => nightVal κ w) 6007 17) 6) (nG κ))) (jd_rv (jd_tmp ((w_this hw))) 0 rfl rfl) rfl q529 q531 qs23 q80 q532 nX1_sumSleepers dX1_digest_78 rfl rfl rfl (Nat.le_of_ble_eq_true rfl) ⟨(Nat.le_of_ble_eq_true rfl), (Nat.le_of_ble_eq_true rfl), by omega, by omega⟩ (fun rv8 hn8 hq8 => ?_) jd_nox
              obtain ⟨rfl, he8⟩ := hq8
              rw [he8]
              refine jd_aload_n dX1_digest_81 rfl ?_
              refine jd_iconst (v := 0) dX1_digest_82 (by decide) ?_
              refine jd_callV (As := [.int (0)]) (rest := []) (ct_X1_ways (WC.tmp hw hq) hI 0 (by decide)) (jd_rv (jd_tmp ((w_this hw))) 0 rfl rfl) rfl q562 q564 qs29 q80 q565 nX1_ways dX1_digest_83 rfl rfl rfl (Nat.le_of_ble_eq_true rfl) ⟨(Nat.le_of_ble_eq_true rfl), (Nat.le_of_ble_eq_true rfl), by omega, by omega⟩ (fun rv9 hn9 hq9 => ?_) jd_nox
              obtain ⟨q2, hq2, rfl, he9⟩ := hq9
              rw [he9]
              refine jd_astore_n (ls' := [_, _, _, _]) dX1_digest_86 (Nat.le_of_ble_eq_true rfl) rfl rfl ?_
              refine jd_iconst (v := 0) dX1_digest_87 (by decide) ?_
              refine jd_istore_n (ls' := [_, _, _, _]) dX1_digest_88 (Nat.le_of_ble_eq_true rfl) rfl rfl ?_
              have lp89_11 : ∀ (j : Nat) (l : Nat) (hl0 : l + j = 6), jd_W G mX1_digest 8 (12 - 1 - 0 - 0 - 0 - 1) (745 - 1 - 0 - 0 - 0 - 6) 89 [some (.ref (β 0 0)), some (.ref (q)), some (.ref (q2)), some (.int (nI l))] [] (jd_up (jd_up h (0, q) (q, sumE (ll_fd (fun l => wayN κ 0 l) (dg1 κ) l))) (0, q2) (q2, jd_ia G 6 (aW (wayW κ 0 72)))) (jd_pu h (.long (digestV κ))) jd_no := by
                intro j
                induction j with
                | zero =>
                  intro l hl0
                  obtain rfl : l = 6 := by omega
                  refine jd_iload_n dX1_digest_89 rfl ?_
                  refine jd_bipush (v := 6) dX1_digest_90 (by decide) ?_
                  refine jd_ncmp_ge (a := 6) (b := 6) (tgt := 109) dX1_digest_92 (by decide) (by omega) (by omega) (fun z12 => ?_) (fun z13 => ?_)
                  · refine jd_aload_n dX1_digest_109 rfl ?_
                    refine jd_aload_n dX1_digest_110 rfl ?_
                    refine jd_bipush (v := 20) dX1_digest_111 (by decide) ?_
                    refine jd_iconst (v := (-1)) dX1_digest_113 (by decide) ?_
                    refine jd_callV (As := [.int (20), .int ((-1))]) (rest := [.ref (q)]) (ct_X1_planNow (WC.tmp (WC.tmp hw hq) (up2_n hq2)) hI 20 (by decide) none (fun j hj => by cases hj)) (jd_rv (jd_tmp (jd_tmp ((w_this hw)))) 0 rfl rfl) rfl q569 q571 qs30 q80 q572 nX1_planNow dX1_digest_114 rfl rfl rfl (Nat.le_of_ble_eq_true rfl) ⟨(Nat.le_of_ble_eq_true rfl), (Nat.le_of_ble_eq_true rfl), by omega, by omega⟩ (fun rv13 hn13 hq13 => ?_) jd_nox
                    obtain ⟨rfl, he13⟩ := hq13
                    rw [he13]
                    refine jd_i2l dX1_digest_117 ?_
                    refine jd_callV (As := [.long (((planVal κ 20 none)).toInt64)]) (rest := []) (ct_X15_add ((jd_up_n (up2_ne hq2)).trans jd_up_s) (((planVal κ 20 none)).toInt64)) (jd_rv ((jd_up_n (up2_ne hq2)).trans jd_up_s) 8 rfl rfl) rfl q424 q425 q426 q123 q427 nX15_add dX1_digest_118 rfl rfl rfl (Nat.le_of_ble_eq_true rfl) ⟨(Nat.le_of_ble_eq_true rfl), (Nat.le_of_ble_eq_true rfl), by omega, by omega⟩ (fun rv14 hn14 hq14 => ?_) jd_nox
                    obtain ⟨rfl, he14⟩ := hq14
                    rw [he14, up2 (up2_ne hq2)]
                    refine jd_aload_n dX1_digest_121 rfl ?_
                    refine jd_aload_n dX1_digest_122 rfl ?_
                    refine jd_pV (As := []) (rest := [.ref (q)]) (ct_X1_isSoundNow (WC.tmp (WC.tmp hw hq) (up2_n hq2)) hI) (jd_rv (jd_tmp (jd_tmp ((w_this hw)))) 0 rfl rfl) rfl q315 q317 qs3 q80 q318 nX1_isSoundNow dX1_digest_123 rfl rfl rfl (Nat.le_of_ble_eq_true rfl) ⟨(Nat.le_of_ble_eq_true rfl), (Nat.le_of_ble_eq_true rfl)⟩ ?_
                    refine jd_nif_eq (a := 1) (tgt := 133) dX1_digest_126 (by decide) (by omega) (fun z16 => ?_) (fun z17 => ?_)
                    · exact absurd z16 (by decide)
                    · refine jd_lconst (v := 1) dX1_digest_129 (by decide) ?_
                      refine jd_goto (tgt := 134) dX1_digest_130 (by decide) ?_
                      refine jd_callV (As := [.long (1)]) (rest := []) (ct_X15_add ((jd_up_n (up2_ne hq2)).trans jd_up_s) (1)) (jd_rv ((jd_up_n (up2_ne hq2)).trans jd_up_s) 8 rfl rfl) rfl q424 q425 q426 q123 q427 nX15_add dX1_digest_134 rfl rfl rfl (Nat.le_of_ble_eq_true rfl) ⟨(Nat.le_of_ble_eq_true rfl), (Nat.le_of_ble_eq_true rfl), by omega, by omega⟩ (fun rv17 hn17 hq17 => ?_) jd_nox
                      obtain ⟨rfl, he17⟩ := hq17
                      rw [he17, up2 (up2_ne hq2)]
                      refine jd_aload_n dX1_digest_137 rfl ?_
                      refine jd_getN in_X15 ((jd_up_n (up2_ne hq2)).trans jd_up_s) 0 q390 dX1_digest_138 rfl (Nat.le_of_ble_eq_true rfl) rfl ?_
                      refine jd_drop (h' := h) (fun i x e => jd_tmp_keep (up2_n hq2) i x (jd_tmp_keep hq i x e)) ?_
                      exact jd_lret dX1_digest_141 rfl ⟨rfl, rfl⟩
                  · omega
                | succ j ih89 =>
                  intro l hl0
                  refine jd_iload_n dX1_digest_89 rfl ?_
                  refine jd_bipush (v := 6) dX1_digest_90 (by decide) ?_
                  refine jd_ncmp_ge (a := l) (b := 6) (tgt := 109) dX1_digest_92 (by decide) (by omega) (by omega) (fun z19 => ?_) (fun z20 => ?_)
                  · omega
                  · refine jd_aload_n dX1_digest_95 rfl ?_
                    refine jd_aload_n dX1_digest_96 rfl ?_
                    refine jd_iload_n dX1_digest_97 rfl ?_
                    refine jd_iald jd_up_s dX1_digest_98 (vp_in_nI (by omega) (by omega)) ?_
                    refine jd_top (v := .int ((aW (wayW κ 0 72)) (nI (l)).toNatClampNeg)) (w := .int ((wayN κ 0 l))) (by rw [nI_clamp (by omega), aW_at (by omega)]) ?_
                    refine jd_i2l dX1_digest_99 ?_
                    refine jd_callV (As := [.long (((wayN κ 0 l)).toInt64)]) (rest := []) (ct_X15_add ((jd_up_n (up2_ne hq2)).trans jd_up_s) (((wayN κ 0 l)).toInt64)) (jd_rv ((jd_up_n (up2_ne hq2)).trans jd_up_s) 8 rfl rfl) rfl q424 q425 q426 q123 q427 nX15_add dX1_digest_100 rfl rfl rfl (Nat.le_of_ble_eq_true rfl) ⟨(Nat.le_of_ble_eq_true rfl), (Nat.le_of_ble_eq_true rfl), by omega, by omega⟩ (fun rv20 hn20 hq20 => ?_) jd_nox
                    obtain ⟨rfl, he20⟩ := hq20
                    rw [he20, up2 (up2_ne hq2)]
                    refine jd_iincN (n := 1) (ls' := [_, _, _, _]) dX1_digest_103 rfl (Nat.le_of_ble_eq_true rfl) rfl rfl ?_
                    refine jd_goto (tgt := 89) dX1_digest_106 (by decide) ?_
                    refine jd_heq (h' := (jd_up (jd_up h (0, q) (q, sumE (ll_fd (fun l => wayN κ 0 l) (dg1 κ) ((l + 1))))) (0, q2) (q2, jd_ia G 6 (aW (wayW κ 0 72))))) rfl ?_
                    refine jd_lsub [some (.ref (β 0 0)), some (.ref (q)), some (.ref (q2)), some (.int (nI (l + 1)))] ⟨rfl, rfl, rfl, rfl, trivial⟩ ?_
                    exact ih89 (l + 1) (by omega)
              refine jd_heq (h' := (jd_up (jd_up h (0, q) (q, sumE (ll_fd (fun l => wayN κ 0 l) (dg1 κ) 0))) (0, q2) (q2, jd_ia G 6 (aW (wayW κ 0 72))))) rfl ?_
              refine jd_lsub [some (.ref (β 0 0)), some (.ref (q)), some (.ref (q2)), some (.int (nI 0))] ⟨rfl, rfl, rfl, rfl, trivial⟩ ?_
              exact lp89_11 (6) 0 (by omega)
            · omega
          | succ j ih34 =>
            intro l hl0
            refine jd_iload_n dX1_digest_34 rfl ?_
            refine jd_bipush (v := 6) dX1_digest_35 (by decide) ?_
            refine jd_ncmp_ge (a := l) (b := 6) (tgt := 71) dX1_digest_37 (by decide) (by omega) (by omega) (fun z22 => ?_) (fun z23 => ?_)
            · omega
            · refine jd_iconst (v := 0) dX1_digest_40 (by decide) ?_
              refine jd_istore_n (ls' := [_, _, _, _]) dX1_digest_41 (Nat.le_of_ble_eq_true rfl) rfl rfl ?_
              have lp42_24 : ∀ (j : Nat) (x : Nat) (hx0 : x + j = 9), jd_W G mX1_digest 8 (12 - 1 - 0) (745 - 1 - 0) 42 [some (.ref (β 0 0)), some (.ref (q)), some (.int (nI l)), some (.int (nI x))] [] (jd_up h (0, q) (q, sumE (ll_fd (fun w => landVal κ l w) (dgLands κ (ll_fd (fun w => nightVal κ w) 6007 17) l) x))) (jd_pu h (.long (digestV κ))) jd_no := by
                intro j
                induction j with
                | zero =>
                  intro x hx0
                  obtain rfl : x = 9 := by omega
                  refine jd_iload_n dX1_digest_42 rfl ?_
                  refine jd_bipush (v := 8) dX1_digest_43 (by decide) ?_
                  refine jd_ncmp_gt (a := 9) (b := 8) (tgt := 65) dX1_digest_45 (by decide) (by omega) (by omega) (fun z25 => ?_) (fun z26 => ?_)
                  · refine jd_iincN (n := 1) (ls' := [_, _, _, _]) dX1_digest_65 rfl (Nat.le_of_ble_eq_true rfl) rfl rfl ?_
                    refine jd_goto (tgt := 34) dX1_digest_68 (by decide) ?_
                    refine jd_heq (h' := (jd_up h (0, q) (q, sumE (dgLands κ (ll_fd (fun w => nightVal κ w) 6007 17) ((l + 1)))))) rfl ?_
                    refine jd_lsub [some (.ref (β 0 0)), some (.ref (q)), some (.int (nI (l + 1))), none] ⟨rfl, rfl, rfl, trivial⟩ ?_
                    exact ih34 (l + 1) (by omega)
                  · omega
                | succ j ih42 =>
                  intro x hx0
                  refine jd_iload_n dX1_digest_42 rfl ?_
                  refine jd_bipush (v := 8) dX1_digest_43 (by decide) ?_
                  refine jd_ncmp_gt (a := x) (b := 8) (tgt := 65) dX1_digest_45 (by decide) (by omega) (by omega) (fun z27 => ?_) (fun z28 => ?_)
                  · omega
                  · refine jd_aload_n dX1_digest_48 rfl ?_
                    refine jd_aload_n dX1_digest_49 rfl ?_
                    refine jd_iload_n dX1_digest_50 rfl ?_
                    refine jd_iload_n dX1_digest_51 rfl ?_
                    refine jd_pV (As := [.int (nI l), .int (nI x)]) (rest := [.ref (q)]) (ct_X1_landNow (WC.tmp hw hq) hI (l) (by omega) (x) (by omega)) (jd_rv (jd_tmp ((w_this hw))) 0 rfl rfl) rfl q429 q431 qs11 q80 q432 nX1_landNow dX1_digest_52 rfl rfl rfl (Nat.le_of_ble_eq_true rfl) ⟨(Nat.le_of_ble_eq_true rfl), (Nat.le_of_ble_eq_true rfl)⟩ ?_
                    refine jd_i2l dX1_digest_55 ?_
                    refine jd_callV (As := [.long (((landVal κ l x)).toInt64)]) (rest := []) (ct_X15_add jd_up_s (((landVal κ l x)).toInt64)) (jd_rv jd_up_s 8 rfl rfl) rfl q424 q425 q426 q123 q427 nX15_add dX1_digest_56 rfl rfl rfl (Nat.le_of_ble_eq_true rfl) ⟨(Nat.le_of_ble_eq_true rfl), (Nat.le_of_ble_eq_true rfl), by omega, by omega⟩ (fun rv28 hn28 hq28 => ?_) jd_nox
                    obtain ⟨rfl, he28⟩ := hq28
                    rw [he28, jd_up_up]
                    refine jd_iincN (n := 1) (ls' := [_, _, _, _]) dX1_digest_59 rfl (Nat.le_of_ble_eq_true rfl) rfl rfl ?_
                    refine jd_goto (tgt := 42) dX1_digest_62 (by decide) ?_
                    refine jd_heq (h' := (jd_up h (0, q) (q, sumE (ll_fd (fun w => landVal κ l w) (dgLands κ (ll_fd (fun w => nightVal κ w) 6007 17) l) ((x + 1)))))) rfl ?_
                    refine jd_lsub [some (.ref (β 0 0)), some (.ref (q)), some (.int (nI l)), some (.int (nI (x + 1)))] ⟨rfl, rfl, rfl, rfl, trivial⟩ ?_
                    exact ih42 (x + 1) (by omega)
              refine jd_heq (h' := (jd_up h (0, q) (q, sumE (ll_fd (fun w => landVal κ l w) (dgLands κ (ll_fd (fun w => nightVal κ w) 6007 17) l) 0)))) rfl ?_
              refine jd_lsub [some (.ref (β 0 0)), some (.ref (q)), some (.int (nI l)), some (.int (nI 0))] ⟨rfl, rfl, rfl, rfl, trivial⟩ ?_
              exact lp42_24 (9) 0 (by omega)
        refine jd_heq (h' := (jd_up h (0, q) (q, sumE (dgLands κ (ll_fd (fun w => nightVal κ w) 6007 17) 0)))) rfl ?_
        refine jd_lsub [some (.ref (β 0 0)), some (.ref (q)), some (.int (nI 0)), none] ⟨rfl, rfl, rfl, trivial⟩ ?_
        exact lp34_5 (6) 0 (by omega)
      · omega
    | succ j ih10 =>
      intro x hx0
      refine jd_iload_n dX1_digest_10 rfl ?_
      refine jd_bipush (v := 16) dX1_digest_11 (by decide) ?_
      refine jd_ncmp_gt (a := x) (b := 16) (tgt := 32) dX1_digest_13 (by decide) (by omega) (by omega) (fun z30 => ?_) (fun z31 => ?_)
      · omega
      · refine jd_aload_n dX1_digest_16 rfl ?_
        refine jd_aload_n dX1_digest_17 rfl ?_
        refine jd_iload_n dX1_digest_18 rfl ?_
        refine jd_pV (As := [.int (nI x)]) (rest := [.ref (q)]) (ct_X1_nightNow (WC.tmp hw hq) hI (x) (by omega)) (jd_rv (jd_tmp ((w_this hw))) 0 rfl rfl) rfl q394 q396 qs6 q80 q397 nX1_nightNow dX1_digest_19 rfl rfl rfl (Nat.le_of_ble_eq_true rfl) ⟨(Nat.le_of_ble_eq_true rfl), (Nat.le_of_ble_eq_true rfl)⟩ ?_
        refine jd_i2l dX1_digest_22 ?_
        refine jd_callV (As := [.long (((nightVal κ x)).toInt64)]) (rest := []) (ct_X15_add jd_up_s (((nightVal κ x)).toInt64)) (jd_rv jd_up_s 8 rfl rfl) rfl q424 q425 q426 q123 q427 nX15_add dX1_digest_23 rfl rfl rfl (Nat.le_of_ble_eq_true rfl) ⟨(Nat.le_of_ble_eq_true rfl), (Nat.le_of_ble_eq_true rfl), by omega, by omega⟩ (fun rv31 hn31 hq31 => ?_) jd_nox
        obtain ⟨rfl, he31⟩ := hq31
        rw [he31, jd_up_up]
        refine jd_iincN (n := 1) (ls' := [_, _, _, _]) dX1_digest_26 rfl (Nat.le_of_ble_eq_true rfl) rfl rfl ?_
        refine jd_goto (tgt := 10) dX1_digest_29 (by decide) ?_
        refine jd_heq (h' := (jd_up h (0, q) (q, sumE (ll_fd (fun w => nightVal κ w) 6007 ((x + 1)))))) rfl ?_
        refine jd_lsub [some (.ref (β 0 0)), some (.ref (q)), some (.int (nI (x + 1))), none] ⟨rfl, rfl, rfl, trivial⟩ ?_
        exact ih10 (x + 1) (by omega)
  refine jd_heq (h' := (jd_up h (0, q) (q, sumE (ll_fd (fun w => nightVal κ w) 6007 0)))) rfl ?_
  refine jd_lsub [some (.ref (β 0 0)), some (.ref (q)), some (.int (nI 0)), none] ⟨rfl, rfl, rfl, trivial⟩ ?_
  exact lp10_2 (17) 0 (by omega)
