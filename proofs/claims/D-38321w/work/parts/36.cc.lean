/-! the component: enter, join, leave, yawn (printed by mk_c.py) -/
set_option maxRecDepth 20000 in
set_option maxHeartbeats 2000000 in
theorem ct_X7_enter {G : jd_G} {β : ll_B} {κ : ll_K} {h : jd_H} (hw : WC G β κ h) (g s : Nat) (hg : g < nG κ) (hs : s < nS κ) (h12 : nS κ ≤ 12) (hql : (gQue κ g).length ≤ 12) (hqmm : ∀ x ∈ gQue κ g, x < nS κ) : jd_Ct G mX7_enter 11 (40) (1300) [.ref (β 2 g), .ref (β 5 s)] h (jd_ef G β (ll_sq κ g ((gQue κ g).insertIdx (enterAt κ g s) s)) h (some (.int (nI (enterAt κ g s))))) jd_no := by
  have hqm2 : ∀ j, j < (gQue κ g).length → (gQue κ g).getD j 12 < nS κ := fun j hj => hqmm _ (gd_mem hj)
  have hqm : ∀ j, j < (gQue κ g).length → qAt κ g j < nS κ := hqm2
  have hele := enter_le (κ := κ) (g := g) (s := s)
  refine jd_ct (ls := [some (.ref (β 2 g)), some (.ref (β 5 s)), none, none, none]) rfl rfl (by decide) (Nat.le_of_ble_eq_true rfl) rfl ?_
  have w47 : jd_W G mX7_enter 11 (40) (1300) 47 [some (.ref (β 2 g)), some (.ref (β 5 s)), some (.int (nI ((enterAt κ g s)))), none, none] [] h (jd_ef G β (ll_sq κ g ((gQue κ g).insertIdx (enterAt κ g s) s)) h (some (.int (nI (enterAt κ g s))))) jd_no := by
    refine jd_new (fs := [.int (0), .null, .int (0)]) in_J2 tyJ2_ok q777 q133 q83 dX7_enter_47 15 rfl rfl (by omega) (by omega) (fun q hq => ?_)
    refine jd_dup dX7_enter_50 rfl ?_
    refine jd_callI (As := []) (rest := [.ref (q)]) (ct_J2_init jd_up_s) rfl rfl q778 q135 q83 q136 nJ2_init dX7_enter_51 rfl rfl (Nat.le_of_ble_eq_true rfl) ⟨(Nat.le_of_ble_eq_true rfl), (Nat.le_of_ble_eq_true rfl), by omega, by omega⟩ (fun rv0 hn0 hq0 => ?_) jd_nox
    obtain ⟨rfl, he0⟩ := hq0
    rw [he0, jd_up_up]
    refine jd_heq (h' := (jd_up h (0, q) (q, .inr (0, 0, restF (β 5) (gQue κ g) (enterAt κ g s) 0)))) (by rw [rest0]) ?_
    refine jd_astore_n (ls' := [_, _, _, _, _]) dX7_enter_54 (Nat.le_of_ble_eq_true rfl) rfl rfl ?_
    have lp55_2 : ∀ (j : Nat) (i : Nat) (hi0 : (enterAt κ g s) + i + j = (gQue κ g).length) (mc : Int32) (hx : jd_H) (hqx : hx (0, q) = none) (hw2 : WC G β (ll_sq κ g (qcut (gQue κ g) (enterAt κ g s) i)) hx) (hf2 : ∀ j : jd_Id, 20 ≤ j.1 → hx j = h j), jd_W G mX7_enter 11 (1 * j + 14) (28 * j + 500) 55 [some (.ref (β 2 g)), some (.ref (β 5 s)), some (.int (nI ((enterAt κ g s)))), some (.ref (q)), none] [] (jd_up hx (0, q) (q, .inr (mc, i, restF (β 5) (gQue κ g) (enterAt κ g s) i))) (jd_ef G β (ll_sq κ g ((gQue κ g).insertIdx (enterAt κ g s) s)) h (some (.int (nI (enterAt κ g s))))) jd_no := by
      intro j
      induction j with
      | zero =>
        intro i hi0 mc hx hqx hw2 hf2
        have hlen : (gQue (ll_sq κ g (qcut (gQue κ g) (enterAt κ g s) i)) g).length = (gQue κ g).length - i := by rw [sq_q, qcut_len (by omega)]
        refine jd_aload_n dX7_enter_55 rfl ?_
        refine jd_get in_X7 (jd_tmp (((w_gate hw2)) g (show g < nG κ by omega))) 7 q791 dX7_enter_56 rfl (Nat.le_of_ble_eq_true rfl) rfl ?_
        obtain ⟨mcq3, hqu3⟩ := w_queue hw2 g (show g < nG κ by omega)
        refine jd_pF (n := 0) (As := []) (rest := []) (ct_J2_size (jd_tmp hqu3) (by omega)) (jd_rv (jd_tmp hqu3) 15 rfl rfl) (ci := 15) rfl (List.mem_of_getElem? (i := 2) rfl) rfl q368 q342 q344 q83 q346 q341 q345 q343 q207 ⟨by decide, by decide, by decide +kernel⟩ dX7_enter_59 rfl rfl (Nat.le_of_ble_eq_true rfl) ⟨(Nat.le_of_ble_eq_true rfl), (Nat.le_of_ble_eq_true rfl)⟩ ?_
        refine jd_iload_n dX7_enter_64 rfl ?_
        refine jd_ncmp_le (a := (gQue (ll_sq κ g (qcut (gQue κ g) (enterAt κ g s) i)) g).length) (b := (enterAt κ g s)) (tgt := 91) dX7_enter_65 (by decide) (by omega) (by omega) (fun z4 => ?_) (fun z5 => ?_)
        · refine jd_aload_n dX7_enter_91 rfl ?_
          refine jd_get in_X7 (jd_tmp (((w_gate hw2)) g (show g < nG κ by omega))) 7 q791 dX7_enter_92 rfl (Nat.le_of_ble_eq_true rfl) rfl ?_
          refine jd_aload_n dX7_enter_95 rfl ?_
          have hmq : ∀ j, j < (gQue (ll_sq κ g (qcut (gQue κ g) (enterAt κ g s) i)) g).length → qAt (ll_sq κ g (qcut (gQue κ g) (enterAt κ g s) i)) g j < nS κ := fun j hj => by rw [sq_at]; rw [sq_q] at hj; exact hqmm _ (qcut_mem (gd_mem hj))
          refine jd_callF (n := 1) (As := [.ref (β 5 s)]) (rest := []) (ct_J2_add (n := (gQue (ll_sq κ g (qcut (gQue κ g) (enterAt κ g s) i)) g).length) (jd_tmp hqu3) (show (gQue (ll_sq κ g (qcut (gQue κ g) (enterAt κ g s) i)) g).length ≤ 600 by omega) (x := β 5 s) (Cn := "Lullabygate$Sleeper") q2019 (fun j hj => obT hqx (slOb hw2 (hmq j hj))) (obT hqx (slOb hw2 hs))) (jd_rv (jd_tmp hqu3) 15 rfl rfl) (ci := 15) rfl (List.mem_of_getElem? (i := 0) rfl) rfl q1016 q208 q210 q83 q212 q206 q211 q209 q207 ⟨by decide, by decide, by decide +kernel⟩ dX7_enter_96 rfl rfl (Nat.le_of_ble_eq_true rfl) ⟨(Nat.le_of_ble_eq_true rfl), (Nat.le_of_ble_eq_true rfl), by omega, by omega⟩ (fun rv5 hn5 hq5 => ?_) jd_nox
          obtain ⟨rfl, he5⟩ := hq5
          rw [he5]
          refine jd_updT (fun z => by cases z) (fun h5 hs5 ho5 => ?_)
          have hw5 := wu_gQue hw2 (k := g) (show g < nG κ by omega) app_len (app_fun (β 5)) hs5 ho5
          have hqx5 : h5 (0, q) = none := (ho5 _ (fun z => by cases z)).trans hqx
          have hf5 : ∀ j : jd_Id, 20 ≤ j.1 → h5 j = h j := fun j hj => (ho5 j (ll_nek (by decide) hj)).trans (hf2 j hj)
          refine jd_pop dX7_enter_101 rfl ?_
          have hw5x : WC G β (ll_sq κ g (qput (gQue κ g) (enterAt κ g s) s 0)) h5 := by have := hw5; rw [sq_sq, sq_q, qcut_end (by omega)] at this; exact this
          refine jd_iconst (v := 0) dX7_enter_102 (by decide) ?_
          refine jd_istore (ls' := [_, _, _, _, _]) dX7_enter_103 (Nat.le_of_ble_eq_true rfl) rfl rfl ?_
          have lp105_7 : ∀ (j : Nat) (k : Nat) (hk0 : k + j = i) (hx : jd_H) (hqx : hx (0, q) = none) (hw2 : WC G β (ll_sq κ g (qput (gQue κ g) (enterAt κ g s) s k)) hx) (hf2 : ∀ j : jd_Id, 20 ≤ j.1 → hx j = h j), jd_W G mX7_enter 11 (1 * j + 0) (32 * j + 0) 105 [some (.ref (β 2 g)), some (.ref (β 5 s)), some (.int (nI ((enterAt κ g s)))), some (.ref (q)), some (.int (nI k))] [] (jd_up hx (0, q) (q, .inr (mc, i, restF (β 5) (gQue κ g) (enterAt κ g s) i))) (jd_ef G β (ll_sq κ g ((gQue κ g).insertIdx (enterAt κ g s) s)) h (some (.int (nI (enterAt κ g s))))) jd_no := by
            intro j
            induction j with
            | zero =>
              intro k hk0 hx hqx hw2 hf2
              have hlen : (gQue (ll_sq κ g (qput (gQue κ g) (enterAt κ g s) s k)) g).length = (enterAt κ g s) + k + 1 := by rw [sq_q, qput_len (by omega)]
              refine jd_iload dX7_enter_105 rfl ?_
              refine jd_aload_n dX7_enter_107 rfl ?_
              refine jd_pF (n := 0) (As := []) (rest := [.int (nI k)]) (ct_J2_size jd_up_s (show i ≤ 900 by omega)) (jd_rv jd_up_s 15 rfl rfl) (ci := 15) rfl (List.mem_of_getElem? (i := 2) rfl) rfl q368 q342 q344 q83 q346 q341 q345 q343 q207 ⟨by decide, by decide, by decide +kernel⟩ dX7_enter_108 rfl rfl (Nat.le_of_ble_eq_true rfl) ⟨(Nat.le_of_ble_eq_true rfl), (Nat.le_of_ble_eq_true rfl)⟩ ?_
              refine jd_ncmp_ge (a := k) (b := i) (tgt := 143) dX7_enter_113 (by decide) (by omega) (by omega) (fun z8 => ?_) (fun z9 => ?_)
              · refine jd_iload_n dX7_enter_143 rfl ?_
                exact jd_iret dX7_enter_144 rfl ⟨rfl, by have := hw2; rw [qput_end (by omega)] at this; exact WC.tmp this hqx, fun j hj => (jd_up_n (ll_nek (by decide) hj)).trans (hf2 j hj)⟩
              · omega
            | succ j ih105 =>
              intro k hk0 hx hqx hw2 hf2
              have hlen : (gQue (ll_sq κ g (qput (gQue κ g) (enterAt κ g s) s k)) g).length = (enterAt κ g s) + k + 1 := by rw [sq_q, qput_len (by omega)]
              refine jd_iload dX7_enter_105 rfl ?_
              refine jd_aload_n dX7_enter_107 rfl ?_
              refine jd_pF (n := 0) (As := []) (rest := [.int (nI k)]) (ct_J2_size jd_up_s (show i ≤ 900 by omega)) (jd_rv jd_up_s 15 rfl rfl) (ci := 15) rfl (List.mem_of_getElem? (i := 2) rfl) rfl q368 q342 q344 q83 q346 q341 q345 q343 q207 ⟨by decide, by decide, by decide +kernel⟩ dX7_enter_108 rfl rfl (Nat.le_of_ble_eq_true rfl) ⟨(Nat.le_of_ble_eq_true rfl), (Nat.le_of_ble_eq_true rfl)⟩ ?_
              refine jd_ncmp_ge (a := k) (b := i) (tgt := 143) dX7_enter_113 (by decide) (by omega) (by omega) (fun z10 => ?_) (fun z11 => ?_)
              · omega
              · refine jd_aload_n dX7_enter_116 rfl ?_
                refine jd_get in_X7 (jd_tmp (((w_gate hw2)) g (show g < nG κ by omega))) 7 q791 dX7_enter_117 rfl (Nat.le_of_ble_eq_true rfl) rfl ?_
                refine jd_aload_n dX7_enter_120 rfl ?_
                refine jd_iload dX7_enter_121 rfl ?_
                refine jd_pF (n := 1) (As := [.int (nI k)]) (rest := [.ref (β 3 g)]) (ct_J2_get jd_up_s (show i ≤ 900 by omega) (k := k) (show k < i by omega)) (jd_rv jd_up_s 15 rfl rfl) (ci := 15) rfl (List.mem_of_getElem? (i := 1) rfl) rfl q370 q323 q325 q83 q327 q322 q326 q324 q207 ⟨by decide, by decide, by decide +kernel⟩ dX7_enter_123 rfl rfl (Nat.le_of_ble_eq_true rfl) ⟨(Nat.le_of_ble_eq_true rfl), (Nat.le_of_ble_eq_true rfl)⟩ ?_
                have hplt2 : (enterAt κ g s) + k < (gQue κ g).length := by omega
                have hsx := hqm2 _ hplt2
                refine jd_top (w := .ref (β 5 ((gQue κ g).getD ((enterAt κ g s) + k) 12))) (congrArg Value.ref (rest_at (by omega))) ?_
                have hmq : ∀ j, j < (gQue (ll_sq κ g (qput (gQue κ g) (enterAt κ g s) s k)) g).length → qAt (ll_sq κ g (qput (gQue κ g) (enterAt κ g s) s k)) g j < nS κ := fun j hj => by rw [sq_at]; rw [sq_q] at hj; rcases qput_mem (gd_mem hj) with e | e; rw [e]; exact hs; exact hqmm _ e
                refine jd_castS (jd_rv (jd_tmp (((w_sleeper hw2)) ((gQue κ g).getD ((enterAt κ g s) + k) 12) (show (gQue κ g).getD ((enterAt κ g s) + k) 12 < nS κ by omega))) 4 rfl rfl) (ci := 4) rfl q1000 dX7_enter_128 ?_
                obtain ⟨mcq12, hqu12⟩ := w_queue hw2 g (show g < nG κ by omega)
                refine jd_callF (n := 1) (As := [.ref (β 5 ((gQue κ g).getD ((enterAt κ g s) + k) 12))]) (rest := []) (ct_J2_add (n := (gQue (ll_sq κ g (qput (gQue κ g) (enterAt κ g s) s k)) g).length) (jd_tmp hqu12) (show (gQue (ll_sq κ g (qput (gQue κ g) (enterAt κ g s) s k)) g).length ≤ 600 by omega) (x := β 5 ((gQue κ g).getD ((enterAt κ g s) + k) 12)) (Cn := "Lullabygate$Sleeper") q2019 (fun j hj => obT hqx (slOb hw2 (hmq j hj))) (obT hqx (slOb hw2 hsx))) (jd_rv (jd_tmp hqu12) 15 rfl rfl) (ci := 15) rfl (List.mem_of_getElem? (i := 0) rfl) rfl q1016 q208 q210 q83 q212 q206 q211 q209 q207 ⟨by decide, by decide, by decide +kernel⟩ dX7_enter_131 rfl rfl (Nat.le_of_ble_eq_true rfl) ⟨(Nat.le_of_ble_eq_true rfl), (Nat.le_of_ble_eq_true rfl), by omega, by omega⟩ (fun rv12 hn12 hq12 => ?_) jd_nox
                obtain ⟨rfl, he12⟩ := hq12
                rw [he12]
                refine jd_updT (fun z => by cases z) (fun h12 hs12 ho12 => ?_)
                have hw12 := wu_gQue hw2 (k := g) (show g < nG κ by omega) app_len (app_fun (β 5)) hs12 ho12
                have hqx12 : h12 (0, q) = none := (ho12 _ (fun z => by cases z)).trans hqx
                have hf12 : ∀ j : jd_Id, 20 ≤ j.1 → h12 j = h j := fun j hj => (ho12 j (ll_nek (by decide) hj)).trans (hf2 j hj)
                refine jd_pop dX7_enter_136 rfl ?_
                refine jd_iincN (n := 1) (ls' := [_, _, _, _, _]) dX7_enter_137 rfl (Nat.le_of_ble_eq_true rfl) rfl rfl ?_
                refine jd_goto (tgt := 105) dX7_enter_140 (by decide) ?_
                refine jd_wk (cb' := 1 * (j) + 0) (sb' := 32 * (j) + 0) ?_ (by omega) (by omega)
                refine jd_lsub [some (.ref (β 2 g)), some (.ref (β 5 s)), some (.int (nI ((enterAt κ g s)))), some (.ref (q)), some (.int (nI (k + 1)))] ⟨rfl, rfl, rfl, rfl, rfl, trivial⟩ ?_
                exact ih105 (k + 1) (by omega) h12 hqx12 (by have := hw12; rw [sq_sq, sq_q, qput_s (by omega)] at this; exact this) hf12
          refine jd_wk (cb' := 1 * (i) + 0) (sb' := 32 * (i) + 0) ?_ (by omega) (by omega)
          refine jd_lsub [some (.ref (β 2 g)), some (.ref (β 5 s)), some (.int (nI ((enterAt κ g s)))), some (.ref (q)), some (.int (nI 0))] ⟨rfl, rfl, rfl, rfl, rfl, trivial⟩ ?_
          exact lp105_7 i 0 (by omega) h5 hqx5 hw5x hf5
        · omega
      | succ j ih55 =>
        intro i hi0 mc hx hqx hw2 hf2
        have hlen : (gQue (ll_sq κ g (qcut (gQue κ g) (enterAt κ g s) i)) g).length = (gQue κ g).length - i := by rw [sq_q, qcut_len (by omega)]
        refine jd_aload_n dX7_enter_55 rfl ?_
        refine jd_get in_X7 (jd_tmp (((w_gate hw2)) g (show g < nG κ by omega))) 7 q791 dX7_enter_56 rfl (Nat.le_of_ble_eq_true rfl) rfl ?_
        obtain ⟨mcq14, hqu14⟩ := w_queue hw2 g (show g < nG κ by omega)
        refine jd_pF (n := 0) (As := []) (rest := []) (ct_J2_size (jd_tmp hqu14) (by omega)) (jd_rv (jd_tmp hqu14) 15 rfl rfl) (ci := 15) rfl (List.mem_of_getElem? (i := 2) rfl) rfl q368 q342 q344 q83 q346 q341 q345 q343 q207 ⟨by decide, by decide, by decide +kernel⟩ dX7_enter_59 rfl rfl (Nat.le_of_ble_eq_true rfl) ⟨(Nat.le_of_ble_eq_true rfl), (Nat.le_of_ble_eq_true rfl)⟩ ?_
        refine jd_iload_n dX7_enter_64 rfl ?_
        refine jd_ncmp_le (a := (gQue (ll_sq κ g (qcut (gQue κ g) (enterAt κ g s) i)) g).length) (b := (enterAt κ g s)) (tgt := 91) dX7_enter_65 (by decide) (by omega) (by omega) (fun z15 => ?_) (fun z16 => ?_)
        · omega
        · refine jd_aload_n dX7_enter_68 rfl ?_
          refine jd_aload_n dX7_enter_69 rfl ?_
          refine jd_get in_X7 (jd_tmp (((w_gate hw2)) g (show g < nG κ by omega))) 7 q791 dX7_enter_70 rfl (Nat.le_of_ble_eq_true rfl) rfl ?_
          refine jd_iload_n dX7_enter_73 rfl ?_
          have hplt : (enterAt κ g s) < (gQue (ll_sq κ g (qcut (gQue κ g) (enterAt κ g s) i)) g).length := by rw [sq_q, qcut_len (by omega)]; omega
          have hmq : ∀ j, j < (gQue (ll_sq κ g (qcut (gQue κ g) (enterAt κ g s) i)) g).length → qAt (ll_sq κ g (qcut (gQue κ g) (enterAt κ g s) i)) g j < nS κ := fun j hj => by rw [sq_at]; rw [sq_q] at hj; exact hqmm _ (qcut_mem (gd_mem hj))
          refine jd_callF (n := 1) (As := [.int (nI ((enterAt κ g s)))]) (rest := [.ref (q)]) (ct_J2_remove (jd_tmp hqu14) (by omega) (k := (enterAt κ g s)) hplt (Cn := "Lullabygate$Sleeper") q2019 (fun j hj => obT hqx (slOb hw2 (hmq j hj)))) (jd_rv (jd_tmp hqu14) 15 rfl rfl) (ci := 15) rfl (List.mem_of_getElem? (i := 4) rfl) rfl q1002 q1005 q1007 q83 q1009 q1004 q1008 q1006 q207 ⟨by decide, by decide, by decide +kernel⟩ dX7_enter_74 rfl rfl (Nat.le_of_ble_eq_true rfl) ⟨(Nat.le_of_ble_eq_true rfl), (Nat.le_of_ble_eq_true rfl), by omega, by omega⟩ (fun rv16 hn16 hq16 => ?_) jd_nox
          obtain ⟨rfl, he16⟩ := hq16
          rw [he16]
          refine jd_updT (fun z => by cases z) (fun h16 hs16 ho16 => ?_)
          have hw16 := wu_gQue hw2 (k := g) (show g < nG κ by omega) (er_len hplt) (er_fun (β 5)) hs16 ho16
          have hqx16 : h16 (0, q) = none := (ho16 _ (fun z => by cases z)).trans hqx
          have hf16 : ∀ j : jd_Id, 20 ≤ j.1 → h16 j = h j := fun j hj => (ho16 j (ll_nek (by decide) hj)).trans (hf2 j hj)
          have hqe : qAt (ll_sq κ g (qcut (gQue κ g) (enterAt κ g s) i)) g (enterAt κ g s) = (gQue κ g).getD ((enterAt κ g s) + i) 12 := by show (gQue (ll_sq κ g (qcut (gQue κ g) (enterAt κ g s) i)) g).getD _ 12 = _; rw [sq_q]; exact qcut_get (by omega)
          have hplt2 : (enterAt κ g s) + i < (gQue κ g).length := by omega
          have hsx := hqm2 _ hplt2
          refine jd_top (w := .ref (β 5 ((gQue κ g).getD ((enterAt κ g s) + i) 12))) (congrArg (fun x => Value.ref (β 5 x)) hqe) ?_
          refine jd_castS (jd_rv (jd_tmp (((w_sleeper hw16)) ((gQue κ g).getD ((enterAt κ g s) + i) 12) (show (gQue κ g).getD ((enterAt κ g s) + i) 12 < nS κ by omega))) 4 rfl rfl) (ci := 4) rfl q1000 dX7_enter_79 ?_
          refine jd_callF (n := 1) (As := [.ref (β 5 ((gQue κ g).getD ((enterAt κ g s) + i) 12))]) (rest := []) (ct_J2_add jd_up_s (show i ≤ 600 by omega) (x := β 5 ((gQue κ g).getD ((enterAt κ g s) + i) 12)) (Cn := "Lullabygate$Sleeper") q2019 (restOb hw16 hqx16 (fun j hj => hqm2 j hj) (show (enterAt κ g s) + i ≤ (gQue κ g).length by omega)) (obT hqx16 (slOb hw16 (hqm2 _ hplt2)))) (jd_rv jd_up_s 15 rfl rfl) (ci := 15) rfl (List.mem_of_getElem? (i := 0) rfl) rfl q1016 q208 q210 q83 q212 q206 q211 q209 q207 ⟨by decide, by decide, by decide +kernel⟩ dX7_enter_82 rfl rfl (Nat.le_of_ble_eq_true rfl) ⟨(Nat.le_of_ble_eq_true rfl), (Nat.le_of_ble_eq_true rfl), by omega, by omega⟩ (fun rv17 hn17 hq17 => ?_) jd_nox
          obtain ⟨rfl, he17⟩ := hq17
          rw [he17, jd_up_up, rest_up]
          refine jd_pop dX7_enter_87 rfl ?_
          refine jd_goto (tgt := 55) dX7_enter_88 (by decide) ?_
          refine jd_wk (cb' := 1 * (j) + 14) (sb' := 28 * (j) + 500) ?_ (by omega) (by omega)
          refine jd_lsub [some (.ref (β 2 g)), some (.ref (β 5 s)), some (.int (nI ((enterAt κ g s)))), some (.ref (q)), none] ⟨rfl, rfl, rfl, rfl, trivial⟩ ?_
          exact ih55 (i + 1) (by omega) (mc + 1) h16 hqx16 (by have := hw16; rw [sq_sq, sq_q, qcut_er (by omega)] at this; exact this) hf16
    refine jd_wk (cb' := 1 * ((gQue κ g).length - (enterAt κ g s)) + 14) (sb' := 28 * ((gQue κ g).length - (enterAt κ g s)) + 500) ?_ (by omega) (by omega)
    refine jd_lsub [some (.ref (β 2 g)), some (.ref (β 5 s)), some (.int (nI ((enterAt κ g s)))), some (.ref (q)), none] ⟨rfl, rfl, rfl, rfl, trivial⟩ ?_
    exact lp55_2 ((gQue κ g).length - (enterAt κ g s)) 0 (by omega) 0 h hq (by rw [qcut0, sq_id]; exact hw) (fun _ _ => rfl)
  refine jd_iconst (v := 0) dX7_enter_0 (by decide) ?_
  refine jd_istore_n (ls' := [_, _, _, _, _]) dX7_enter_1 (Nat.le_of_ble_eq_true rfl) rfl rfl ?_
  have lp2_19 : ∀ (j : Nat) (p : Nat) (hp0 : p + j = (gQue κ g).length) (hno : ∀ i, i < p → ¬ (sBaby κ s = true ∧ ¬ sBaby κ (qAt κ g i) = true)), jd_W G mX7_enter 11 (40) (1300) 2 [some (.ref (β 2 g)), some (.ref (β 5 s)), some (.int (nI p)), none, none] [] h (jd_ef G β (ll_sq κ g ((gQue κ g).insertIdx (enterAt κ g s) s)) h (some (.int (nI (enterAt κ g s))))) jd_no := by
    intro j
    induction j with
    | zero =>
      intro p hp0 hno
      obtain rfl : p = (gQue κ g).length := by omega
      refine jd_iload_n dX7_enter_2 rfl ?_
      refine jd_aload_n dX7_enter_3 rfl ?_
      refine jd_get in_X7 (((w_gate hw)) g (show g < nG κ by omega)) 7 q791 dX7_enter_4 rfl (Nat.le_of_ble_eq_true rfl) rfl ?_
      obtain ⟨mcq20, hqu20⟩ := w_queue hw g (show g < nG κ by omega)
      refine jd_pF (n := 0) (As := []) (rest := [.int (nI ((gQue κ g).length))]) (ct_J2_size hqu20 (by omega)) (jd_rv hqu20 15 rfl rfl) (ci := 15) rfl (List.mem_of_getElem? (i := 2) rfl) rfl q368 q342 q344 q83 q346 q341 q345 q343 q207 ⟨by decide, by decide, by decide +kernel⟩ dX7_enter_7 rfl rfl (Nat.le_of_ble_eq_true rfl) ⟨(Nat.le_of_ble_eq_true rfl), (Nat.le_of_ble_eq_true rfl)⟩ ?_
      refine jd_ncmp_ge (a := (gQue κ g).length) (b := (gQue κ g).length) (tgt := 47) dX7_enter_12 (by decide) (by omega) (by omega) (fun z21 => ?_) (fun z22 => ?_)
      · refine jd_lsub [some (.ref (β 2 g)), some (.ref (β 5 s)), some (.int (nI ((enterAt κ g s)))), none, none] ⟨rfl, rfl, congrArg (fun x => some (Value.int (nI x))) (enter_end hno), trivial⟩ ?_
        exact w47
      · omega
    | succ j ih2 =>
      intro p hp0 hno
      refine jd_iload_n dX7_enter_2 rfl ?_
      refine jd_aload_n dX7_enter_3 rfl ?_
      refine jd_get in_X7 (((w_gate hw)) g (show g < nG κ by omega)) 7 q791 dX7_enter_4 rfl (Nat.le_of_ble_eq_true rfl) rfl ?_
      obtain ⟨mcq23, hqu23⟩ := w_queue hw g (show g < nG κ by omega)
      refine jd_pF (n := 0) (As := []) (rest := [.int (nI p)]) (ct_J2_size hqu23 (by omega)) (jd_rv hqu23 15 rfl rfl) (ci := 15) rfl (List.mem_of_getElem? (i := 2) rfl) rfl q368 q342 q344 q83 q346 q341 q345 q343 q207 ⟨by decide, by decide, by decide +kernel⟩ dX7_enter_7 rfl rfl (Nat.le_of_ble_eq_true rfl) ⟨(Nat.le_of_ble_eq_true rfl), (Nat.le_of_ble_eq_true rfl)⟩ ?_
      refine jd_ncmp_ge (a := p) (b := (gQue κ g).length) (tgt := 47) dX7_enter_12 (by decide) (by omega) (by omega) (fun z24 => ?_) (fun z25 => ?_)
      · omega
      · refine jd_aload_n dX7_enter_15 rfl ?_
        refine jd_getN in_X9 (((w_sleeper hw)) s (show s < nS κ by omega)) 1 q851 dX7_enter_16 rfl (Nat.le_of_ble_eq_true rfl) rfl ?_
        refine jd_bif_eq (tgt := 41) dX7_enter_19 (by decide) (fun z26 => ?_) (fun z27 => ?_)
        · have hno2 : ∀ i, i < p + 1 → ¬ (sBaby κ s = true ∧ ¬ sBaby κ (qAt κ g i) = true) := fun i hi hh => by rcases Nat.lt_succ_iff_lt_or_eq.mp hi with w | w; exact hno i w hh; exact z26 hh.1
          refine jd_iincN (n := 1) (ls' := [_, _, _, _, _]) dX7_enter_41 rfl (Nat.le_of_ble_eq_true rfl) rfl rfl ?_
          refine jd_goto (tgt := 2) dX7_enter_44 (by decide) ?_
          refine jd_lsub [some (.ref (β 2 g)), some (.ref (β 5 s)), some (.int (nI (p + 1))), none, none] ⟨rfl, rfl, rfl, trivial⟩ ?_
          exact ih2 (p + 1) (by omega) hno2
        · refine jd_aload_n dX7_enter_22 rfl ?_
          refine jd_get in_X7 (((w_gate hw)) g (show g < nG κ by omega)) 7 q791 dX7_enter_23 rfl (Nat.le_of_ble_eq_true rfl) rfl ?_
          refine jd_iload_n dX7_enter_26 rfl ?_
          refine jd_pF (n := 1) (As := [.int (nI p)]) (rest := []) (ct_J2_get hqu23 (by omega) (k := p) (show p < (gQue κ g).length by omega)) (jd_rv hqu23 15 rfl rfl) (ci := 15) rfl (List.mem_of_getElem? (i := 1) rfl) rfl q370 q323 q325 q83 q327 q322 q326 q324 q207 ⟨by decide, by decide, by decide +kernel⟩ dX7_enter_27 rfl rfl (Nat.le_of_ble_eq_true rfl) ⟨(Nat.le_of_ble_eq_true rfl), (Nat.le_of_ble_eq_true rfl)⟩ ?_
          have hqp := hqm p (by omega)
          refine jd_castS (jd_rv (((w_sleeper hw)) (qAt κ g p) (show qAt κ g p < nS κ by omega)) 4 rfl rfl) (ci := 4) rfl q1000 dX7_enter_32 ?_
          refine jd_getN in_X9 (((w_sleeper hw)) (qAt κ g p) (show qAt κ g p < nS κ by omega)) 1 q851 dX7_enter_35 rfl (Nat.le_of_ble_eq_true rfl) rfl ?_
          refine jd_bif_eq (tgt := 47) dX7_enter_38 (by decide) (fun z28 => ?_) (fun z29 => ?_)
          · refine jd_lsub [some (.ref (β 2 g)), some (.ref (β 5 s)), some (.int (nI ((enterAt κ g s)))), none, none] ⟨rfl, rfl, congrArg (fun x => some (Value.int (nI x))) (enter_at (by omega) hno z27 z28), trivial⟩ ?_
            exact w47
          · have hno2 : ∀ i, i < p + 1 → ¬ (sBaby κ s = true ∧ ¬ sBaby κ (qAt κ g i) = true) := fun i hi hh => by rcases Nat.lt_succ_iff_lt_or_eq.mp hi with w | w; exact hno i w hh; subst w; exact hh.2 z29
            refine jd_iincN (n := 1) (ls' := [_, _, _, _, _]) dX7_enter_41 rfl (Nat.le_of_ble_eq_true rfl) rfl rfl ?_
            refine jd_goto (tgt := 2) dX7_enter_44 (by decide) ?_
            refine jd_lsub [some (.ref (β 2 g)), some (.ref (β 5 s)), some (.int (nI (p + 1))), none, none] ⟨rfl, rfl, rfl, trivial⟩ ?_
            exact ih2 (p + 1) (by omega) hno2
  refine jd_lsub [some (.ref (β 2 g)), some (.ref (β 5 s)), some (.int (nI 0)), none, none] ⟨rfl, rfl, rfl, trivial⟩ ?_
  exact lp2_19 ((gQue κ g).length) 0 (by omega) (fun i hi => absurd hi (Nat.not_lt_zero i))

set_option maxRecDepth 20000 in
set_option maxHeartbeats 2000000 in
theorem ct_X1_join {G : jd_G} {β : ll_B} {κ : ll_K} {h : jd_H} (hw : WC G β κ h) (hI : ll_I κ) (s : Int32) (g : Int32) (d : Int32) : jd_Ct G mX1_join 12 (46) (1340) [.ref (β 0 0), .int (s), .int (g), .int (d)] h (jd_op G β h (c_join κ s g d) (.int (nI (enterAt κ (tN g) (tN s)))) (k_join κ (tN s) (tN g) d)) (jd_th h (c_join κ s g d) nmA) := by
  obtain ⟨⟨hG8, hS12, hP24, hH40, hN99, hH24⟩, hIg, hIs, hIp, hIh, hIl, hIq⟩ := id hI
  obtain ⟨mcL, hlL⟩ := w_lands hw
  obtain ⟨mcG, hlG⟩ := w_gates hw
  obtain ⟨mcS, hlS⟩ := w_sleepers hw
  obtain ⟨mcP, hlP⟩ := w_parts hw
  obtain ⟨mcH, hlH⟩ := w_hidings hw
  refine jd_ct (ls := [some (.ref (β 0 0)), some (.int (s)), some (.int (g)), some (.int (d)), none, none]) rfl rfl (by decide) (Nat.le_of_ble_eq_true rfl) rfl ?_
  refine jd_aload_n dX1_join_0 rfl ?_
  refine jd_iload_n dX1_join_1 rfl ?_
  refine jd_callV (As := [.int (s)]) (rest := []) (ct_X1_sleeperAt hw hI (s)) (jd_rv ((w_this hw)) 0 rfl rfl) rfl q889 q891 qs37 q80 q892 nX1_sleeperAt dX1_join_2 rfl rfl rfl (Nat.le_of_ble_eq_true rfl) ⟨(Nat.le_of_ble_eq_true rfl), (Nat.le_of_ble_eq_true rfl), by omega, by omega⟩ (fun rv0 hn0 hq0 => ?_) (fun E h2 hx => by obtain ⟨h3, h4, h5⟩ := hx; subst h5; have hx : ¬ _ ∧ True := ⟨h3, trivial⟩; exact jd_xout rfl (jd_th.mk (k := 1) (by unfold c_join; rw [if_neg hx.1]) (by decide) h4))
  obtain ⟨hb0, k_s, hk_s, rfl, rfl, he0⟩ := hq0
  rw [he0]
  have hT_s := tN_nI (show k_s < 2 ^ 31 by omega)
  refine jd_astore (ls' := [_, _, _, _, _, _]) dX1_join_5 (Nat.le_of_ble_eq_true rfl) rfl rfl ?_
  refine jd_aload_n dX1_join_7 rfl ?_
  refine jd_iload_n dX1_join_8 rfl ?_
  refine jd_callV (As := [.int (g)]) (rest := []) (ct_X1_gateAt hw hI (g)) (jd_rv ((w_this hw)) 0 rfl rfl) rfl q818 q820 qs36 q80 q821 nX1_gateAt dX1_join_9 rfl rfl rfl (Nat.le_of_ble_eq_true rfl) ⟨(Nat.le_of_ble_eq_true rfl), (Nat.le_of_ble_eq_true rfl), by omega, by omega⟩ (fun rv1 hn1 hq1 => ?_) (fun E h2 hx => by obtain ⟨h3, h4, h5⟩ := hx; subst h5; have hx : ¬ _ ∧ True := ⟨h3, trivial⟩; exact jd_xout rfl (jd_th.mk (k := 1) (by unfold c_join; (try simp only [hT_s]); rw [if_pos hb0, if_neg hx.1]) (by decide) h4))
  obtain ⟨hb1, k_g, hk_g, rfl, rfl, he1⟩ := hq1
  rw [he1]
  have hT_g := tN_nI (show k_g < 2 ^ 31 by omega)
  refine jd_astore (ls' := [_, _, _, _, _, _]) dX1_join_12 (Nat.le_of_ble_eq_true rfl) rfl rfl ?_
  have hsX := hIs k_s hk_s
  have hsX1 := hsX.1
  have hsX2 := hsX.2.1
  have hgX := hIg k_g hk_g
  refine jd_iload_n dX1_join_14 rfl ?_
  refine jd_mg1 35 (.int (jd_b ((¬ (d < 0) ∧ ((d &&& ((headOf κ k_s) ^^^ (-1))) = 0))))) (fun hj3 => ?_) ?_
  · refine jd_if_lt (tgt := 34) dX1_join_15 (by decide) (fun z4 => ?_) (fun z5 => ?_)
    · refine jd_iconst (v := 0) dX1_join_34 (by decide) ?_
      exact jd_top (congrArg Value.int (jd_b0 (fun w => w.1 z4)).symm) hj3
    · refine jd_iload_n dX1_join_18 rfl ?_
      refine jd_aload_n dX1_join_19 rfl ?_
      refine jd_iload_n dX1_join_20 rfl ?_
      refine jd_pV (As := [.int (nI k_s)]) (rest := [.int (d)]) (ct_X1_headOf hw hI (k_s) (by omega)) (jd_rv ((w_this hw)) 0 rfl rfl) rfl q373 q375 qs5 q80 q376 nX1_headOf dX1_join_21 rfl rfl rfl (Nat.le_of_ble_eq_true rfl) ⟨(Nat.le_of_ble_eq_true rfl), (Nat.le_of_ble_eq_true rfl)⟩ ?_
      refine jd_iconst (v := (-1)) dX1_join_24 (by decide) ?_
      refine jd_ixor dX1_join_25 ?_
      refine jd_iand dX1_join_26 ?_
      refine jd_if_ne (tgt := 34) dX1_join_27 (by decide) (fun z6 => ?_) (fun z7 => ?_)
      · refine jd_iconst (v := 0) dX1_join_34 (by decide) ?_
        exact jd_top (congrArg Value.int (jd_b0 (fun w => z6 w.2)).symm) hj3
      · refine jd_iconst (v := 1) dX1_join_30 (by decide) ?_
        refine jd_goto (tgt := 35) dX1_join_31 (by decide) ?_
        exact jd_top (congrArg Value.int (jd_b1 ⟨z5, z7⟩).symm) hj3
  · refine jd_callS (As := [.int (jd_b ((¬ (d < 0) ∧ ((d &&& ((headOf κ k_s) ^^^ (-1))) = 0))))]) (rest := []) (ct_X1_must ((¬ (d < 0) ∧ ((d &&& ((headOf κ k_s) ^^^ (-1))) = 0)))) rfl q721 q722 q80 q723 nX1_must dX1_join_35 rfl rfl (Nat.le_of_ble_eq_true rfl) ⟨(Nat.le_of_ble_eq_true rfl), (Nat.le_of_ble_eq_true rfl), by omega, by omega⟩ (fun rv7 hn7 hq7 => ?_) (fun E h2 hx => by obtain ⟨h3, h4, h5⟩ := hx; subst h5; have hx : ¬ _ ∧ True := ⟨h3, trivial⟩; exact jd_xout rfl (jd_th.mk (k := 2) (by unfold c_join; (try simp only [hT_s, hT_g]); rw [if_pos hb0, if_pos hb1, if_neg hx.1]) (by decide) h4))
    obtain ⟨hb7, rfl, he7⟩ := hq7
    rw [he7]
    refine jd_aload dX1_join_38 rfl ?_
    refine jd_gets (jd_zR (k := 0) (by decide) rfl) q893 dX1_join_40 ?_
    refine jd_pV (As := [.ref (jd_rA G 0)]) (rest := []) (ct_X9_is (((w_sleeper hw)) k_s (show k_s < nS κ by omega)) (r := sRest κ k_s) (q := 0) (by omega) (by decide)) (jd_rv (((w_sleeper hw)) k_s (show k_s < nS κ by omega)) 4 rfl rfl) rfl q355 q356 q357 q105 q358 nX9_is dX1_join_43 rfl rfl rfl (Nat.le_of_ble_eq_true rfl) ⟨(Nat.le_of_ble_eq_true rfl), (Nat.le_of_ble_eq_true rfl)⟩ ?_
    refine jd_mg1 67 (.int (jd_b ((((sRest κ k_s = 0)) ∧ ((((nI ((gOne κ k_g))) = (nI ((sLand κ k_s)))) ∨ ((nI ((gOther κ k_g))) = (nI ((sLand κ k_s)))))))))) (fun hj9 => ?_) ?_
    · refine jd_bif_eq (tgt := 66) dX1_join_46 (by decide) (fun z10 => ?_) (fun z11 => ?_)
      · refine jd_iconst (v := 0) dX1_join_66 (by decide) ?_
        exact jd_top (congrArg Value.int (jd_b0 (fun w => z10 w.1)).symm) hj9
      · refine jd_aload dX1_join_49 rfl ?_
        refine jd_aload dX1_join_51 rfl ?_
        refine jd_getN in_X9 (((w_sleeper hw)) k_s (show k_s < nS κ by omega)) 2 q854 dX1_join_53 rfl (Nat.le_of_ble_eq_true rfl) rfl ?_
        refine jd_pV (As := [.int (nI ((sLand κ k_s)))]) (rest := []) (ct_X7_hasLand (((w_gate hw)) k_g (show k_g < nG κ by omega)) (nI ((sLand κ k_s)))) (jd_rv (((w_gate hw)) k_g (show k_g < nG κ by omega)) 3 rfl rfl) rfl q359 q360 q361 q103 q362 nX7_hasLand dX1_join_56 rfl rfl rfl (Nat.le_of_ble_eq_true rfl) ⟨(Nat.le_of_ble_eq_true rfl), (Nat.le_of_ble_eq_true rfl)⟩ ?_
        refine jd_bif_eq (tgt := 66) dX1_join_59 (by decide) (fun z12 => ?_) (fun z13 => ?_)
        · refine jd_iconst (v := 0) dX1_join_66 (by decide) ?_
          exact jd_top (congrArg Value.int (jd_b0 (fun w => z12 w.2)).symm) hj9
        · refine jd_iconst (v := 1) dX1_join_62 (by decide) ?_
          refine jd_goto (tgt := 67) dX1_join_63 (by decide) ?_
          exact jd_top (congrArg Value.int (jd_b1 ⟨z11, z13⟩).symm) hj9
    · refine jd_callS (As := [.int (jd_b ((((sRest κ k_s = 0)) ∧ ((((nI ((gOne κ k_g))) = (nI ((sLand κ k_s)))) ∨ ((nI ((gOther κ k_g))) = (nI ((sLand κ k_s)))))))))]) (rest := []) (ct_X1_checkState ((((sRest κ k_s = 0)) ∧ ((((nI ((gOne κ k_g))) = (nI ((sLand κ k_s)))) ∨ ((nI ((gOther κ k_g))) = (nI ((sLand κ k_s))))))))) rfl q747 q748 q80 q749 nX1_checkState dX1_join_67 rfl rfl (Nat.le_of_ble_eq_true rfl) ⟨(Nat.le_of_ble_eq_true rfl), (Nat.le_of_ble_eq_true rfl), by omega, by omega⟩ (fun rv13 hn13 hq13 => ?_) (fun E h2 hx => by obtain ⟨h3, h4, h5⟩ := hx; subst h5; have hx : ¬ _ ∧ True := ⟨h3, trivial⟩; exact jd_xout rfl (jd_th.mk (k := 3) (by unfold c_join; (try simp only [hT_s, hT_g]); rw [if_pos hb0, if_pos hb1, if_pos hb7, if_neg hx.1]) (by decide) h4))
      obtain ⟨hb13, rfl, he13⟩ := hq13
      rw [he13]
      refine jd_aload dX1_join_70 rfl ?_
      refine jd_gets (jd_zR (k := 1) (by decide) rfl) q353 dX1_join_72 ?_
      refine jd_putN (fs' := [_, _, _, _, _, _, _, _]) in_X9 tyX9_ok nmX9 (((w_sleeper hw)) k_s (show k_s < nS κ by omega)) 4 q858 dX1_join_75 rfl (Nat.le_of_ble_eq_true rfl) rfl rfl rfl (Nat.le_of_ble_eq_true rfl) rfl ?_
      refine jd_updG (fun h15 hs15 ho15 => ?_)
      have hw15 := wu_sRest hw (k := k_s) (show k_s < nS κ by omega) (v := 1) hs15 ho15
      refine jd_aload dX1_join_78 rfl ?_
      refine jd_iload_n dX1_join_80 rfl ?_
      refine jd_putN (fs' := [_, _, _, _, _, _, _, _]) in_X9 tyX9_ok nmX9 (((w_sleeper hw15)) k_s (show k_s < nS κ by omega)) 5 q860 dX1_join_81 rfl (Nat.le_of_ble_eq_true rfl) rfl rfl rfl (Nat.le_of_ble_eq_true rfl) rfl ?_
      refine jd_updG (fun h16 hs16 ho16 => ?_)
      have hw16 := wu_sGate hw15 (k := k_s) (show k_s < nS κ by omega) (v := some k_g) hs16 ho16
      refine jd_aload dX1_join_84 rfl ?_
      refine jd_iload_n dX1_join_86 rfl ?_
      refine jd_putN (fs' := [_, _, _, _, _, _, _, _]) in_X9 tyX9_ok nmX9 (((w_sleeper hw16)) k_s (show k_s < nS κ by omega)) 6 q862 dX1_join_87 rfl (Nat.le_of_ble_eq_true rfl) rfl rfl rfl (Nat.le_of_ble_eq_true rfl) rfl ?_
      refine jd_updG (fun h17 hs17 ho17 => ?_)
      have hw17 := wu_sDecl hw16 (k := k_s) (show k_s < nS κ by omega) (v := d) hs17 ho17
      refine jd_aload dX1_join_90 rfl ?_
      refine jd_aload dX1_join_92 rfl ?_
      refine jd_callV (As := [.ref (β 5 k_s)]) (rest := []) (ct_X7_enter hw17 k_g k_s (show k_g < nG κ by omega) (show k_s < nS κ by omega) (show nS κ ≤ 12 by omega) (hIg k_g (by omega)).2.2.1 (fun x hx => ((hIg k_g (by omega)).2.2.2.2.1 x hx).1)) (jd_rv (((w_gate hw17)) k_g (show k_g < nG κ by omega)) 3 rfl rfl) rfl q996 q997 q998 q103 q999 nX7_enter dX1_join_94 rfl rfl rfl (Nat.le_of_ble_eq_true rfl) ⟨(Nat.le_of_ble_eq_true rfl), (Nat.le_of_ble_eq_true rfl), by omega, by omega⟩ (fun rv17 hn17 hq17 => ?_) jd_nox
      obtain ⟨rfl, hw17_, hf17_⟩ := hq17
      exact jd_iret dX1_join_97 rfl ⟨by unfold c_join; (try simp only [hT_s, hT_g]); rw [if_pos hb0, if_pos hb1, if_pos hb7, if_pos hb13], by first | rfl | (simp only [hT_s, hT_g]; done) | (simp only [hT_s, hT_g]; rfl), β, rfl, (by first | exact hw17_ | (simp only [hT_s, hT_g]; exact hw17_)), (fun j hj => ((hf17_ j hj).trans ((ho17 j (ll_nek (by decide) hj)).trans ((ho16 j (ll_nek (by decide) hj)).trans (ho15 j (ll_nek (by decide) hj))))))⟩

set_option maxRecDepth 20000 in
set_option maxHeartbeats 2000000 in
theorem ct_X1_leave {G : jd_G} {β : ll_B} {κ : ll_K} {h : jd_H} (hw : WC G β κ h) (hI : ll_I κ) (s : Int32) : jd_Ct G mX1_leave 12 (4) (24) [.ref (β 0 0), .int (s)] h (jd_op G β h (c_leave κ s) (.int (nI (leaveP κ (tN s)))) (k_leave κ (tN s))) (jd_th h (c_leave κ s) nmB) := by
  obtain ⟨⟨hG8, hS12, hP24, hH40, hN99, hH24⟩, hIg, hIs, hIp, hIh, hIl, hIq⟩ := id hI
  obtain ⟨mcL, hlL⟩ := w_lands hw
  obtain ⟨mcG, hlG⟩ := w_gates hw
  obtain ⟨mcS, hlS⟩ := w_sleepers hw
  obtain ⟨mcP, hlP⟩ := w_parts hw
  obtain ⟨mcH, hlH⟩ := w_hidings hw
  refine jd_ct (ls := [some (.ref (β 0 0)), some (.int (s)), none, none, none]) rfl rfl (by decide) (Nat.le_of_ble_eq_true rfl) rfl ?_
  refine jd_aload_n dX1_leave_0 rfl ?_
  refine jd_iload_n dX1_leave_1 rfl ?_
  refine jd_callV (As := [.int (s)]) (rest := []) (ct_X1_sleeperAt hw hI (s)) (jd_rv ((w_this hw)) 0 rfl rfl) rfl q889 q891 qs37 q80 q892 nX1_sleeperAt dX1_leave_2 rfl rfl rfl (Nat.le_of_ble_eq_true rfl) ⟨(Nat.le_of_ble_eq_true rfl), (Nat.le_of_ble_eq_true rfl), by omega, by omega⟩ (fun rv0 hn0 hq0 => ?_) (fun E h2 hx => by obtain ⟨h3, h4, h5⟩ := hx; subst h5; have hx : ¬ _ ∧ True := ⟨h3, trivial⟩; exact jd_xout rfl (jd_th.mk (k := 1) (by unfold c_leave; rw [if_neg hx.1]) (by decide) h4))
  obtain ⟨hb0, k_s, hk_s, rfl, rfl, he0⟩ := hq0
  rw [he0]
  have hT_s := tN_nI (show k_s < 2 ^ 31 by omega)
  refine jd_astore_n (ls' := [_, _, _, _, _]) dX1_leave_5 (Nat.le_of_ble_eq_true rfl) rfl rfl ?_
  have hsX := hIs k_s hk_s
  have hsX1 := hsX.1
  have hsX2 := hsX.2.1
  refine jd_aload_n dX1_leave_6 rfl ?_
  refine jd_gets (jd_zR (k := 1) (by decide) rfl) q353 dX1_leave_7 ?_
  refine jd_pV (As := [.ref (jd_rA G 1)]) (rest := []) (ct_X9_is (((w_sleeper hw)) k_s (show k_s < nS κ by omega)) (r := sRest κ k_s) (q := 1) (by omega) (by decide)) (jd_rv (((w_sleeper hw)) k_s (show k_s < nS κ by omega)) 4 rfl rfl) rfl q355 q356 q357 q105 q358 nX9_is dX1_leave_10 rfl rfl rfl (Nat.le_of_ble_eq_true rfl) ⟨(Nat.le_of_ble_eq_true rfl), (Nat.le_of_ble_eq_true rfl)⟩ ?_
  refine jd_callS (As := [.int (jd_b ((sRest κ k_s = 1)))]) (rest := []) (ct_X1_checkState ((sRest κ k_s = 1))) rfl q747 q748 q80 q749 nX1_checkState dX1_leave_13 rfl rfl (Nat.le_of_ble_eq_true rfl) ⟨(Nat.le_of_ble_eq_true rfl), (Nat.le_of_ble_eq_true rfl), by omega, by omega⟩ (fun rv1 hn1 hq1 => ?_) (fun E h2 hx => by obtain ⟨h3, h4, h5⟩ := hx; subst h5; have hx : ¬ _ ∧ True := ⟨h3, trivial⟩; exact jd_xout rfl (jd_th.mk (k := 2) (by unfold c_leave; (try simp only [hT_s]); rw [if_pos hb0, if_neg hx.1]) (by decide) h4))
  obtain ⟨hb1, rfl, he1⟩ := hq1
  rw [he1]
  obtain ⟨g, hg1, hg2, hg3⟩ := hsX.2.2.2.1 hb1
  obtain ⟨p, hp1, hp2, hp3⟩ := place_mem hg3
  have hle := leave_eq hg1 hp1 hp3
  have hgX := hIg g hg2
  have hqX := hgX.2.2.1
  refine jd_aload_n dX1_leave_16 rfl ?_
  refine jd_get in_X1 ((w_this hw)) 1 q284 dX1_leave_17 rfl (Nat.le_of_ble_eq_true rfl) rfl ?_
  refine jd_aload_n dX1_leave_20 rfl ?_
  refine jd_getN in_X9 (((w_sleeper hw)) k_s (show k_s < nS κ by omega)) 5 q860 dX1_leave_21 rfl (Nat.le_of_ble_eq_true rfl) rfl ?_
  refine jd_top (w := .int (nI g)) (congrArg Value.int (by rw [hg1]; rfl)) ?_
  refine jd_pF (n := 1) (As := [.int (nI g)]) (rest := []) (ct_J2_get hlG (show nG κ ≤ 900 by omega) (k := g) (show g < nG κ by omega)) (jd_rv hlG 15 rfl rfl) (ci := 15) rfl (List.mem_of_getElem? (i := 1) rfl) rfl q320 q323 q325 q83 q327 q322 q326 q324 q207 ⟨by decide, by decide, by decide +kernel⟩ dX1_leave_24 rfl rfl (Nat.le_of_ble_eq_true rfl) ⟨(Nat.le_of_ble_eq_true rfl), (Nat.le_of_ble_eq_true rfl)⟩ ?_
  refine jd_castS (jd_rv (((w_gate hw)) g (show g < nG κ by omega)) 3 rfl rfl) (ci := 3) rfl q347 dX1_leave_29 ?_
  refine jd_astore_n (ls' := [_, _, _, _, _]) dX1_leave_32 (Nat.le_of_ble_eq_true rfl) rfl rfl ?_
  refine jd_aload_n dX1_leave_33 rfl ?_
  refine jd_aload_n dX1_leave_34 rfl ?_
  refine jd_pV (As := [.ref (β 5 k_s)]) (rest := []) (ct_X7_place hw hI (g) (k_s) (by omega) (by omega)) (jd_rv (((w_gate hw)) g (show g < nG κ by omega)) 3 rfl rfl) rfl q363 q364 q365 q103 q366 nX7_place dX1_leave_35 rfl rfl rfl (Nat.le_of_ble_eq_true rfl) ⟨(Nat.le_of_ble_eq_true rfl), (Nat.le_of_ble_eq_true rfl)⟩ ?_
  refine jd_top (w := .int (nI p)) (congrArg Value.int (by rw [hp1]; rfl)) ?_
  refine jd_istore (ls' := [_, _, _, _, _]) dX1_leave_38 (Nat.le_of_ble_eq_true rfl) rfl rfl ?_
  refine jd_aload_n dX1_leave_40 rfl ?_
  refine jd_getN in_X7 (((w_gate hw)) g (show g < nG κ by omega)) 7 q792 dX1_leave_41 rfl (Nat.le_of_ble_eq_true rfl) rfl ?_
  refine jd_iload dX1_leave_44 rfl ?_
  obtain ⟨mcq3, hqu3⟩ := w_queue hw g (show g < nG κ by omega)
  have hql3 := (hIg g (show g < nG κ by omega)).2.2.1
  refine jd_callF (n := 1) (As := [.int (nI p)]) (rest := []) (ct_J2_remove hqu3 (by omega) (k := p) hp2 (Cn := "Lullabygate$Sleeper") q2019 (fun i hi => Or.inl ⟨_, _, 4, _, w_sleeper hw _ ((fun i2 hi2 => q_lt hI hg2 hi2) i hi), rfl, rfl, rfl⟩)) (jd_rv hqu3 15 rfl rfl) (ci := 15) rfl (List.mem_of_getElem? (i := 4) rfl) rfl q1025 q1005 q1007 q83 q1009 q1004 q1008 q1006 q207 ⟨by decide, by decide, by decide +kernel⟩ dX1_leave_46 rfl rfl (Nat.le_of_ble_eq_true rfl) ⟨(Nat.le_of_ble_eq_true rfl), (Nat.le_of_ble_eq_true rfl), by omega, by omega⟩ (fun rv3 hn3 hq3 => ?_) jd_nox
  obtain ⟨rfl, he3⟩ := hq3
  rw [he3]
  refine jd_updG (fun h3 hs3 ho3 => ?_)
  have hw3_ := wu_gQue hw (k := g) (show g < nG κ by omega) (er_len hp2) (er_fun (β 5)) hs3 ho3
  refine jd_pop dX1_leave_51 rfl ?_
  refine jd_aload_n dX1_leave_52 rfl ?_
  refine jd_callV (As := []) (rest := []) (ct_X9_lie hw3_ (k_s) (show k_s < nS κ by omega)) (jd_rv (((w_sleeper hw3_)) k_s (show k_s < nS κ by omega)) 4 rfl rfl) rfl q1026 q1027 q1028 q105 q1029 nX9_lie dX1_leave_53 rfl rfl rfl (Nat.le_of_ble_eq_true rfl) ⟨(Nat.le_of_ble_eq_true rfl), (Nat.le_of_ble_eq_true rfl), by omega, by omega⟩ (fun rv4 hn4 hq4 => ?_) jd_nox
  obtain ⟨rfl, hw4_, hf4_⟩ := hq4
  refine jd_iload dX1_leave_56 rfl ?_
  exact jd_iret dX1_leave_58 rfl ⟨by unfold c_leave; (try simp only [hT_s]); rw [if_pos hb0, if_pos hb1], by simp only [hT_s]; rw [hle.2], β, rfl, (by simp only [hT_s]; rw [hle.1]; exact hw4_), (fun j hj => ((hf4_ j hj).trans (ho3 j (ll_nek (by decide) hj))))⟩

set_option maxRecDepth 20000 in
set_option maxHeartbeats 2000000 in
theorem ct_X1_yawn {G : jd_G} {β : ll_B} {κ : ll_K} {h : jd_H} (hw : WC G β κ h) (hI : ll_I κ) (g : Int32) : jd_Ct G mX1_yawn 14 (56) (1960) [.ref (β 0 0), .int (g)] h (jd_op G β h (c_yawn κ g) (.int (yawnVal κ (tN g))) (k_yawn κ (tN g))) (jd_th h (c_yawn κ g) nmB) := by
  obtain ⟨⟨hG8, hS12, hP24, hH40, hN99, hH24⟩, hIg, hIs, hIp, hIh, hIl, hIq⟩ := id hI
  obtain ⟨mcL, hlL⟩ := w_lands hw
  obtain ⟨mcG, hlG⟩ := w_gates hw
  obtain ⟨mcS, hlS⟩ := w_sleepers hw
  obtain ⟨mcP, hlP⟩ := w_parts hw
  obtain ⟨mcH, hlH⟩ := w_hidings hw
  refine jd_ct (ls := [some (.ref (β 0 0)), some (.int (g)), none, none, none, none]) rfl rfl (by decide) (Nat.le_of_ble_eq_true rfl) rfl ?_
  refine jd_aload_n dX1_yawn_0 rfl ?_
  refine jd_iload_n dX1_yawn_1 rfl ?_
  refine jd_callV (As := [.int (g)]) (rest := []) (ct_X1_gateAt hw hI (g)) (jd_rv ((w_this hw)) 0 rfl rfl) rfl q818 q820 qs36 q80 q821 nX1_gateAt dX1_yawn_2 rfl rfl rfl (Nat.le_of_ble_eq_true rfl) ⟨(Nat.le_of_ble_eq_true rfl), (Nat.le_of_ble_eq_true rfl), by omega, by omega⟩ (fun rv0 hn0 hq0 => ?_) (fun E h2 hx => by obtain ⟨h3, h4, h5⟩ := hx; subst h5; have hx : ¬ _ ∧ True := ⟨h3, trivial⟩; exact jd_xout rfl (jd_th.mk (k := 1) (by unfold c_yawn; rw [if_neg hx.1]) (by decide) h4))
  obtain ⟨hb0, k_g, hk_g, rfl, rfl, he0⟩ := hq0
  rw [he0]
  have hT_g := tN_nI (show k_g < 2 ^ 31 by omega)
  refine jd_astore_n (ls' := [_, _, _, _, _, _]) dX1_yawn_5 (Nat.le_of_ble_eq_true rfl) rfl rfl ?_
  refine jd_aload_n dX1_yawn_6 rfl ?_
  refine jd_aload_n dX1_yawn_7 rfl ?_
  refine jd_get in_X1 ((w_this hw)) 7 q290 dX1_yawn_8 rfl (Nat.le_of_ble_eq_true rfl) rfl ?_
  refine jd_pV (As := [.int (nI ((nHour κ)))]) (rest := []) (ct_X7_isOpen (((w_gate hw)) k_g (show k_g < nG κ by omega)) (nI ((nHour κ)))) (jd_rv (((w_gate hw)) k_g (show k_g < nG κ by omega)) 3 rfl rfl) rfl q457 q458 q459 q103 q460 nX7_isOpen dX1_yawn_11 rfl rfl rfl (Nat.le_of_ble_eq_true rfl) ⟨(Nat.le_of_ble_eq_true rfl), (Nat.le_of_ble_eq_true rfl)⟩ ?_
  refine jd_mg1 34 (.int (jd_b ((((¬ (((gHours κ k_g)) ≤ (jd_rem ((((nI ((nHour κ))) - ((gFrom κ k_g))) + 24)) (24))))) ∧ (¬ ((gQue κ k_g).length = 0)))))) (fun hj3 => ?_) ?_
  · refine jd_bif_eq (tgt := 33) dX1_yawn_14 (by decide) (fun z4 => ?_) (fun z5 => ?_)
    · refine jd_iconst (v := 0) dX1_yawn_33 (by decide) ?_
      exact jd_top (congrArg Value.int (jd_b0 (fun w => z4 w.1)).symm) hj3
    · refine jd_aload_n dX1_yawn_17 rfl ?_
      refine jd_getN in_X7 (((w_gate hw)) k_g (show k_g < nG κ by omega)) 7 q792 dX1_yawn_18 rfl (Nat.le_of_ble_eq_true rfl) rfl ?_
      obtain ⟨mcq6, hqu6⟩ := w_queue hw k_g (show k_g < nG κ by omega)
      have hql6 := (hIg k_g (show k_g < nG κ by omega)).2.2.1
      refine jd_pF (n := 0) (As := []) (rest := []) (ct_J2_isEmpty hqu6 (by omega)) (jd_rv hqu6 15 rfl rfl) (ci := 15) rfl (List.mem_of_getElem? (i := 3) rfl) rfl q466 q469 q471 q83 q473 q468 q472 q470 q207 ⟨by decide, by decide, by decide +kernel⟩ dX1_yawn_21 rfl rfl (Nat.le_of_ble_eq_true rfl) ⟨(Nat.le_of_ble_eq_true rfl), (Nat.le_of_ble_eq_true rfl)⟩ ?_
      refine jd_bif_ne (tgt := 33) dX1_yawn_26 (by decide) (fun z7 => ?_) (fun z8 => ?_)
      · refine jd_iconst (v := 0) dX1_yawn_33 (by decide) ?_
        exact jd_top (congrArg Value.int (jd_b0 (fun w => (fun w => w z7) w.2)).symm) hj3
      · refine jd_iconst (v := 1) dX1_yawn_29 (by decide) ?_
        refine jd_goto (tgt := 34) dX1_yawn_30 (by decide) ?_
        exact jd_top (congrArg Value.int (jd_b1 ⟨z5, z8⟩).symm) hj3
  · refine jd_callS (As := [.int (jd_b ((((¬ (((gHours κ k_g)) ≤ (jd_rem ((((nI ((nHour κ))) - ((gFrom κ k_g))) + 24)) (24))))) ∧ (¬ ((gQue κ k_g).length = 0)))))]) (rest := []) (ct_X1_checkState ((((¬ (((gHours κ k_g)) ≤ (jd_rem ((((nI ((nHour κ))) - ((gFrom κ k_g))) + 24)) (24))))) ∧ (¬ ((gQue κ k_g).length = 0))))) rfl q747 q748 q80 q749 nX1_checkState dX1_yawn_34 rfl rfl (Nat.le_of_ble_eq_true rfl) ⟨(Nat.le_of_ble_eq_true rfl), (Nat.le_of_ble_eq_true rfl), by omega, by omega⟩ (fun rv8 hn8 hq8 => ?_) (fun E h2 hx => by obtain ⟨h3, h4, h5⟩ := hx; subst h5; have hx : ¬ _ ∧ True := ⟨h3, trivial⟩; exact jd_xout rfl (jd_th.mk (k := 2) (by unfold c_yawn; (try simp only [hT_g]); rw [if_pos hb0, if_neg hx.1]) (by decide) h4))
    obtain ⟨hb8, rfl, he8⟩ := hq8
    rw [he8]
    have hq0 : ¬ (gQue κ k_g).length = 0 := hb8.2
    have hq2 := q_lt hI hk_g (j := 0) (by omega)
    have hqX := (hIg k_g hk_g).2.2.1
    refine jd_aload_n dX1_yawn_37 rfl ?_
    refine jd_getN in_X7 (((w_gate hw)) k_g (show k_g < nG κ by omega)) 7 q792 dX1_yawn_38 rfl (Nat.le_of_ble_eq_true rfl) rfl ?_
    refine jd_iconst (v := 0) dX1_yawn_41 (by decide) ?_
    refine jd_top (w := .int (nI 0)) rfl ?_
    obtain ⟨mcq10, hqu10⟩ := w_queue hw k_g (show k_g < nG κ by omega)
    have hql10 := (hIg k_g (show k_g < nG κ by omega)).2.2.1
    refine jd_callF (n := 1) (As := [.int (nI 0)]) (rest := []) (ct_J2_remove hqu10 (by omega) (k := 0) (show 0 < (gQue κ k_g).length by omega) (Cn := "Lullabygate$Sleeper") q2019 (fun i hi => Or.inl ⟨_, _, 4, _, w_sleeper hw _ ((fun i2 hi2 => q_lt hI hk_g hi2) i hi), rfl, rfl, rfl⟩)) (jd_rv hqu10 15 rfl rfl) (ci := 15) rfl (List.mem_of_getElem? (i := 4) rfl) rfl q1025 q1005 q1007 q83 q1009 q1004 q1008 q1006 q207 ⟨by decide, by decide, by decide +kernel⟩ dX1_yawn_42 rfl rfl (Nat.le_of_ble_eq_true rfl) ⟨(Nat.le_of_ble_eq_true rfl), (Nat.le_of_ble_eq_true rfl), by omega, by omega⟩ (fun rv10 hn10 hq10 => ?_) jd_nox
    obtain ⟨rfl, he10⟩ := hq10
    rw [he10]
    refine jd_updG (fun h10 hs10 ho10 => ?_)
    have hw10_ := wu_gQue hw (k := k_g) (show k_g < nG κ by omega) (er_len (show 0 < (gQue κ k_g).length by omega)) (er_fun (β 5)) hs10 ho10
    refine jd_castS (jd_rv (((w_sleeper hw10_)) (qAt κ k_g 0) (show qAt κ k_g 0 < nS κ by omega)) 4 rfl rfl) (ci := 4) rfl q352 dX1_yawn_47 ?_
    refine jd_astore_n (ls' := [_, _, _, _, _, _]) dX1_yawn_50 (Nat.le_of_ble_eq_true rfl) rfl rfl ?_
    refine jd_aload_n dX1_yawn_51 rfl ?_
    refine jd_getN in_X9 (((w_sleeper hw10_)) (qAt κ k_g 0) (show qAt κ k_g 0 < nS κ by omega)) 6 q862 dX1_yawn_52 rfl (Nat.le_of_ble_eq_true rfl) rfl ?_
    refine jd_istore (ls' := [_, _, _, _, _, _]) dX1_yawn_55 (Nat.le_of_ble_eq_true rfl) rfl rfl ?_
    refine jd_aload_n dX1_yawn_57 rfl ?_
    refine jd_callV (As := []) (rest := []) (ct_X9_lie hw10_ (qAt κ k_g 0) (show qAt κ k_g 0 < nS κ by omega)) (jd_rv (((w_sleeper hw10_)) (qAt κ k_g 0) (show qAt κ k_g 0 < nS κ by omega)) 4 rfl rfl) rfl q1026 q1027 q1028 q105 q1029 nX9_lie dX1_yawn_58 rfl rfl rfl (Nat.le_of_ble_eq_true rfl) ⟨(Nat.le_of_ble_eq_true rfl), (Nat.le_of_ble_eq_true rfl), by omega, by omega⟩ (fun rv11 hn11 hq11 => ?_) jd_nox
    obtain ⟨rfl, hw11_, hf11_⟩ := hq11
    refine jd_aload_n dX1_yawn_61 rfl ?_
    refine jd_dup dX1_yawn_62 rfl ?_
    refine jd_get in_X1 ((w_this hw11_)) 8 q291 dX1_yawn_63 rfl (Nat.le_of_ble_eq_true rfl) rfl ?_
    refine jd_iconst (v := 1) dX1_yawn_66 (by decide) ?_
    refine jd_iadd dX1_yawn_67 ?_
    refine jd_put (fs' := [_, _, _, _, _, _, _, _, _]) in_X1 tyX1_ok nmX1 ((w_this hw11_)) 8 q291 dX1_yawn_68 rfl (Nat.le_of_ble_eq_true rfl) rfl rfl rfl (Nat.le_of_ble_eq_true rfl) rfl ?_
    refine jd_updG (fun h13 hs13 ho13 => ?_)
    have hw13 := wu_yawns hw11_ (v := ((yawns (k_lie (ll_sq κ k_g ((gQue κ k_g).eraseIdx 0)) (qAt κ k_g 0))) + 1)) hs13 ho13
    have hwY : WC G β (k_yawn0 κ k_g) h13 := hw13
    refine jd_aload_n dX1_yawn_71 rfl ?_
    refine jd_aload_n dX1_yawn_72 rfl ?_
    refine jd_iload_n dX1_yawn_73 rfl ?_
    refine jd_pV (As := [.ref (β 5 (qAt κ k_g 0)), .int (nI k_g)]) (rest := []) (ct_X1_isGoodNow hwY (I_yawn0 hI hk_g hq0) (qAt κ k_g 0) k_g hq2 hk_g) (jd_rv ((w_this hwY)) 0 rfl rfl) rfl q493 q495 qs21 q80 q496 nX1_isGoodNow dX1_yawn_74 rfl rfl rfl (Nat.le_of_ble_eq_true rfl) ⟨(Nat.le_of_ble_eq_true rfl), (Nat.le_of_ble_eq_true rfl)⟩ ?_
    refine jd_bif_eq (tgt := 91) dX1_yawn_77 (by decide) (fun z14 => ?_) (fun z15 => ?_)
    · refine jd_iconst (v := (-1)) dX1_yawn_91 (by decide) ?_
      refine jd_istore (ls' := [_, _, _, _, _, _]) dX1_yawn_92 (Nat.le_of_ble_eq_true rfl) rfl rfl ?_
      refine jd_aload_n dX1_yawn_94 rfl ?_
      refine jd_aload_n dX1_yawn_95 rfl ?_
      refine jd_callV (As := [.ref (β 2 k_g)]) (rest := []) (ct_X1_wear hwY (I_yawn0 hI hk_g hq0) (k_g) hk_g) (jd_rv ((w_this hwY)) 0 rfl rfl) rfl q1088 q1090 qs44 q80 q1091 nX1_wear dX1_yawn_96 rfl rfl rfl (Nat.le_of_ble_eq_true rfl) ⟨(Nat.le_of_ble_eq_true rfl), (Nat.le_of_ble_eq_true rfl), by omega, by omega⟩ (fun rv15 hn15 hq15 => ?_) jd_nox
      obtain ⟨rfl, hw15_, hf15_⟩ := hq15
      refine jd_iload dX1_yawn_99 rfl ?_
      exact jd_iret dX1_yawn_101 rfl ⟨by unfold c_yawn; (try simp only [hT_g]); rw [if_pos hb0, if_pos hb8], by simp only [hT_g]; exact congrArg (fun x => some (Value.int x)) (if_neg z14 : yawnVal κ k_g = _).symm, β, rfl, (by simp only [hT_g]; rw [k_yawn, if_neg z14]; exact hw15_), (fun j hj => ((hf15_ j hj).trans ((ho13 j (ll_nek (by decide) hj)).trans ((hf11_ j hj).trans (ho10 j (ll_nek (by decide) hj))))))⟩
    · refine jd_aload_n dX1_yawn_80 rfl ?_
      refine jd_aload_n dX1_yawn_81 rfl ?_
      refine jd_aload_n dX1_yawn_82 rfl ?_
      refine jd_iload dX1_yawn_83 rfl ?_
      refine jd_callV (As := [.ref (β 5 (qAt κ k_g 0)), .ref (β 2 k_g), .int ((sDecl (ll_sq κ k_g ((gQue κ k_g).eraseIdx 0)) (qAt κ k_g 0)))]) (rest := []) (ct_X1_cross hwY (I_yawn0 hI hk_g hq0) (qAt κ k_g 0) (k_g) ((sDecl (ll_sq κ k_g ((gQue κ k_g).eraseIdx 0)) (qAt κ k_g 0))) (show qAt κ k_g 0 < nS κ by omega) (show k_g < nG κ by omega) (yawn0_decl hI hk_g hq0).1) (jd_rv ((w_this hwY)) 0 rfl rfl) rfl q1037 q1039 qs40 q80 q1040 nX1_cross dX1_yawn_85 rfl rfl rfl (Nat.le_of_ble_eq_true rfl) ⟨(Nat.le_of_ble_eq_true rfl), (Nat.le_of_ble_eq_true rfl), by omega, by omega⟩ (fun rv16 hn16 hq16 => ?_) jd_nox
      obtain ⟨rfl, ⟨b16, hw16_⟩, hf16_⟩ := hq16
      refine jd_goto (tgt := 92) dX1_yawn_88 (by decide) ?_
      refine jd_istore (ls' := [_, _, _, _, _, _]) dX1_yawn_92 (Nat.le_of_ble_eq_true rfl) rfl rfl ?_
      refine jd_aload_n dX1_yawn_94 rfl ?_
      refine jd_aload_n dX1_yawn_95 rfl ?_
      have ff18 := w_this hw16_
      refine jd_callV (As := [.ref (β 2 k_g)]) (rest := []) (ct_X1_wear hw16_ (I_yawn1 hI hk_g hq0) (k_g) (by rw [cross_g]; exact hk_g)) (jd_rv ff18 0 rfl rfl) rfl q1088 q1090 qs44 q80 q1091 nX1_wear dX1_yawn_96 rfl rfl rfl (Nat.le_of_ble_eq_true rfl) ⟨(Nat.le_of_ble_eq_true rfl), (Nat.le_of_ble_eq_true rfl), by omega, by omega⟩ (fun rv18 hn18 hq18 => ?_) jd_nox
      obtain ⟨rfl, hw18_, hf18_⟩ := hq18
      refine jd_iload dX1_yawn_99 rfl ?_
      exact jd_iret dX1_yawn_101 rfl ⟨by unfold c_yawn; (try simp only [hT_g]); rw [if_pos hb0, if_pos hb8], by simp only [hT_g]; exact congrArg (fun x => some (Value.int x)) (if_pos z15 : yawnVal κ k_g = _).symm, (ll_bu (ll_b9 β b16) 6 (qAt κ k_g 0) (jd_k G 1)), rfl, (by simp only [hT_g]; rw [k_yawn, if_pos z15]; exact hw18_), (fun j hj => ((hf18_ j hj).trans ((hf16_ j hj).trans ((ho13 j (ll_nek (by decide) hj)).trans ((hf11_ j hj).trans (ho10 j (ll_nek (by decide) hj)))))))⟩
