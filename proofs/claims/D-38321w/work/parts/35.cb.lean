/-! the component: search, declare, cross, wear (printed by mk_c.py) -/
set_option maxRecDepth 20000 in
set_option maxHeartbeats 2000000 in
theorem ct_X1_search {G : jd_G} {β : ll_B} {κ : ll_K} {h : jd_H} (hw : WC G β κ h) (hI : ll_I κ) (s : Nat) (H : Int32) (to : Nat) (c : Prop) [Decidable c] (hs : s < nS κ) (ht : to < 6) : jd_Ct G mX1_search 12 (48) (1920) [.ref (β 0 0), .ref (β 5 s), .int (H), .int (nI to), .int (jd_b (c))] h (jd_eh G β (k_sea κ s H to c (nP κ)) h (some (.int (ll_cnt (fun p => ll_has H p ∧ c) (nP κ))))) jd_no := by
  obtain ⟨⟨hG8, hS12, hP24, hH40, hN99, hH24⟩, hIg, hIs, hIp, hIh, hIl, hIq⟩ := id hI
  obtain ⟨mcL, hlL⟩ := w_lands hw
  obtain ⟨mcG, hlG⟩ := w_gates hw
  obtain ⟨mcS, hlS⟩ := w_sleepers hw
  obtain ⟨mcP, hlP⟩ := w_parts hw
  obtain ⟨mcH, hlH⟩ := w_hidings hw
  refine jd_ct (ls := [some (.ref (β 0 0)), some (.ref (β 5 s)), some (.int (H)), some (.int (nI to)), some (.int (jd_b (c))), none, none, none]) rfl rfl (by decide) (Nat.le_of_ble_eq_true rfl) rfl ?_
  refine jd_iconst (v := 0) dX1_search_0 (by decide) ?_
  refine jd_istore (ls' := [_, _, _, _, _, _, _, _]) dX1_search_1 (Nat.le_of_ble_eq_true rfl) rfl rfl ?_
  refine jd_iconst (v := 0) dX1_search_3 (by decide) ?_
  refine jd_istore (ls' := [_, _, _, _, _, _, _, _]) dX1_search_4 (Nat.le_of_ble_eq_true rfl) rfl rfl ?_
  have lp6_1 : ∀ (j : Nat) (k : Nat) (hk0 : k + j = nP κ) (b : Nat → Nat) (hh : jd_H) (hw2 : WC G (ll_b9 β b) (k_sea κ s H to c k) hh) (hf2 : ∀ j : jd_Id, 20 ≤ j.1 → hh j = h j), jd_W G mX1_search 12 (2 * j + 0) (80 * j + 0) 6 [some (.ref (β 0 0)), some (.ref (β 5 s)), some (.int (H)), some (.int (nI to)), some (.int (jd_b (c))), some (.int ((ll_cnt (fun p => ll_has H p ∧ c) k))), some (.int (nI k)), none] [] hh (jd_eh G β (k_sea κ s H to c (nP κ)) h (some (.int (ll_cnt (fun p => ll_has H p ∧ c) (nP κ))))) jd_no := by
    intro j
    induction j with
    | zero =>
      intro k hk0 b hh hw2 hf2
      obtain rfl : k = nP κ := by omega
      refine jd_iload dX1_search_6 rfl ?_
      refine jd_aload_n dX1_search_8 rfl ?_
      have ff2 := w_this hw2
      refine jd_get in_X1 ff2 3 q286 dX1_search_9 rfl (Nat.le_of_ble_eq_true rfl) rfl ?_
      obtain ⟨mcl3, hl3_⟩ := w_parts hw2
      refine jd_pF (n := 0) (As := []) (rest := [.int (nI (nP κ))]) (ct_J2_size hl3_ (show nP κ ≤ 900 by omega)) (jd_rv hl3_ 15 rfl rfl) (ci := 15) rfl (List.mem_of_getElem? (i := 2) rfl) rfl q339 q342 q344 q83 q346 q341 q345 q343 q207 ⟨by decide, by decide, by decide +kernel⟩ dX1_search_12 rfl rfl (Nat.le_of_ble_eq_true rfl) ⟨(Nat.le_of_ble_eq_true rfl), (Nat.le_of_ble_eq_true rfl)⟩ ?_
      refine jd_ncmp_ge (a := nP κ) (b := nP κ) (tgt := 112) dX1_search_17 (by decide) (by omega) (by omega) (fun z4 => ?_) (fun z5 => ?_)
      · refine jd_iload dX1_search_112 rfl ?_
        exact jd_iret dX1_search_114 rfl ⟨rfl, ⟨b, hw2⟩, hf2⟩
      · omega
    | succ j ih6 =>
      intro k hk0 b hh hw2 hf2
      refine jd_iload dX1_search_6 rfl ?_
      refine jd_aload_n dX1_search_8 rfl ?_
      have ff6 := w_this hw2
      refine jd_get in_X1 ff6 3 q286 dX1_search_9 rfl (Nat.le_of_ble_eq_true rfl) rfl ?_
      obtain ⟨mcl7, hl7_⟩ := w_parts hw2
      refine jd_pF (n := 0) (As := []) (rest := [.int (nI k)]) (ct_J2_size hl7_ (show nP κ ≤ 900 by omega)) (jd_rv hl7_ 15 rfl rfl) (ci := 15) rfl (List.mem_of_getElem? (i := 2) rfl) rfl q339 q342 q344 q83 q346 q341 q345 q343 q207 ⟨by decide, by decide, by decide +kernel⟩ dX1_search_12 rfl rfl (Nat.le_of_ble_eq_true rfl) ⟨(Nat.le_of_ble_eq_true rfl), (Nat.le_of_ble_eq_true rfl)⟩ ?_
      refine jd_ncmp_ge (a := k) (b := nP κ) (tgt := 112) dX1_search_17 (by decide) (by omega) (by omega) (fun z8 => ?_) (fun z9 => ?_)
      · omega
      · refine jd_iload_n dX1_search_20 rfl ?_
        refine jd_iload dX1_search_21 rfl ?_
        refine jd_pS (As := [.int (H), .int (nI k)]) (rest := []) (ct_X1_has (H) (nI k)) rfl q482 q483 q80 q484 nX1_has dX1_search_23 rfl rfl (Nat.le_of_ble_eq_true rfl) ⟨(Nat.le_of_ble_eq_true rfl), (Nat.le_of_ble_eq_true rfl)⟩ ?_
        refine jd_bif_eq (tgt := 106) dX1_search_26 (by decide) (fun z10 => ?_) (fun z11 => ?_)
        · refine jd_iincN (n := 1) (ls' := [_, _, _, _, _, _, _, _]) dX1_search_106 rfl (Nat.le_of_ble_eq_true rfl) rfl rfl ?_
          refine jd_goto (tgt := 6) dX1_search_109 (by decide) ?_
          have hw3 : WC G (ll_b9 β b) (k_sea κ s H to c (k + 1)) hh := by rw [← sea_no z10]; exact hw2
          refine jd_wk (cb' := 2 * (j) + 0) (sb' := 80 * (j) + 0) ?_ (by omega) (by omega)
          refine jd_lsub [some (.ref (β 0 0)), some (.ref (β 5 s)), some (.int (H)), some (.int (nI to)), some (.int (jd_b (c))), some (.int ((ll_cnt (fun p => ll_has H p ∧ c) (k + 1)))), some (.int (nI (k + 1))), none] ⟨rfl, rfl, rfl, rfl, rfl, (congrArg (fun x => some (Value.int x)) (cnt_n (P := fun p => ll_has H p ∧ c) (fun w => z10 w.1))), rfl, trivial⟩ ?_
          exact ih6 (k + 1) (by omega) b hh hw3 (fun j hj => (hf2 j hj))
        · refine jd_aload_n dX1_search_29 rfl ?_
          refine jd_get in_X1 ff6 3 q286 dX1_search_30 rfl (Nat.le_of_ble_eq_true rfl) rfl ?_
          refine jd_iload dX1_search_33 rfl ?_
          refine jd_pF (n := 1) (As := [.int (nI k)]) (rest := []) (ct_J2_get hl7_ (show nP κ ≤ 900 by omega) (k := k) (show k < nP κ by omega)) (jd_rv hl7_ 15 rfl rfl) (ci := 15) rfl (List.mem_of_getElem? (i := 1) rfl) rfl q320 q323 q325 q83 q327 q322 q326 q324 q207 ⟨by decide, by decide, by decide +kernel⟩ dX1_search_35 rfl rfl (Nat.le_of_ble_eq_true rfl) ⟨(Nat.le_of_ble_eq_true rfl), (Nat.le_of_ble_eq_true rfl)⟩ ?_
          have ff12 := w_part hw2
          refine jd_castS (jd_rv (ff12 k (show k < nP κ by omega)) 5 rfl rfl) (ci := 5) rfl q377 dX1_search_40 ?_
          refine jd_astore (ls' := [_, _, _, _, _, _, _, _]) dX1_search_43 (Nat.le_of_ble_eq_true rfl) rfl rfl ?_
          refine jd_aload_n dX1_search_45 rfl ?_
          refine jd_aload_n dX1_search_46 rfl ?_
          refine jd_aload dX1_search_47 rfl ?_
          refine jd_callV (As := [.ref (β 5 s), .ref (β 8 k)]) (rest := []) (ct_X1_hide hw2 (s) (k) (show s < nS κ by omega) (show k < nP κ by omega) (hidP_le (by omega) k) (show nS κ ≤ 12 by omega) ((hIp k (by omega)).2.2.2.2.1) (show nNight κ ≤ 99 by omega)) (jd_rv ff6 0 rfl rfl) rfl q1049 q1051 qs42 q80 q1052 nX1_hide dX1_search_49 rfl rfl rfl (Nat.le_of_ble_eq_true rfl) ⟨(Nat.le_of_ble_eq_true rfl), (Nat.le_of_ble_eq_true rfl), by omega, by omega⟩ (fun rv12 hn12 hq12 => ?_) jd_nox
          obtain ⟨rfl, ⟨b12, hw12_⟩, hf12_⟩ := hq12
          rw [ll_b9_b9] at hw12_
          refine jd_iload dX1_search_52 rfl ?_
          refine jd_bif_eq (tgt := 98) dX1_search_54 (by decide) (fun z14 => ?_) (fun z15 => ?_)
          · refine jd_aload dX1_search_98 rfl ?_
            refine jd_gets (jd_zF (k := 4) (by decide) rfl) q1075 dX1_search_100 ?_
            have ff16 := w_part hw12_
            refine jd_putN (fs' := [_, _, _, _, _, _, _]) in_X11 tyX11_ok nmX11 (ff16 k (show k < nP κ by omega)) 5 q912 dX1_search_103 rfl (Nat.le_of_ble_eq_true rfl) rfl rfl rfl (Nat.le_of_ble_eq_true rfl) rfl ?_
            refine jd_updG (fun h17 hs17 ho17 => ?_)
            have hw17 := wu_pFate hw12_ (k := k) (show k < nP κ by omega) (v := 4) hs17 ho17
            refine jd_iincN (n := 1) (ls' := [_, _, _, _, _, _, _, _]) dX1_search_106 rfl (Nat.le_of_ble_eq_true rfl) rfl rfl ?_
            refine jd_goto (tgt := 6) dX1_search_109 (by decide) ?_
            have hw3 : WC G (ll_b9 β b12) (k_sea κ s H to c (k + 1)) h17 := by rw [← sea_slip z11 z14]; exact hw17
            refine jd_wk (cb' := 2 * (j) + 0) (sb' := 80 * (j) + 0) ?_ (by omega) (by omega)
            refine jd_lsub [some (.ref (β 0 0)), some (.ref (β 5 s)), some (.int (H)), some (.int (nI to)), some (.int (jd_b (c))), some (.int ((ll_cnt (fun p => ll_has H p ∧ c) (k + 1)))), some (.int (nI (k + 1))), none] ⟨rfl, rfl, rfl, rfl, rfl, (congrArg (fun x => some (Value.int x)) (cnt_n (P := fun p => ll_has H p ∧ c) (fun w => z14 w.2))), rfl, trivial⟩ ?_
            exact ih6 (k + 1) (by omega) b12 h17 hw3 (fun j hj => ((ho17 j (ll_nek (by decide) hj)).trans ((hf12_ j hj).trans (hf2 j hj))))
          · refine jd_aload dX1_search_57 rfl ?_
            refine jd_iload_n dX1_search_59 rfl ?_
            refine jd_gets (jd_zF (k := 3) (by decide) rfl) q1069 dX1_search_60 ?_
            have ff18 := w_part hw12_
            refine jd_callV (As := [.int (nI to), .ref (jd_fA G 3)]) (rest := []) (ct_X11_keep hw12_ (k) (to) (3) (show k < nP κ by omega)) (jd_rv (ff18 k (show k < nP κ by omega)) 5 rfl rfl) rfl q1071 q1072 q1073 q110 q1074 nX11_keep dX1_search_63 rfl rfl rfl (Nat.le_of_ble_eq_true rfl) ⟨(Nat.le_of_ble_eq_true rfl), (Nat.le_of_ble_eq_true rfl), by omega, by omega⟩ (fun rv18 hn18 hq18 => ?_) jd_nox
            obtain ⟨rfl, hw18_, hf18_⟩ := hq18
            refine jd_aload_n dX1_search_66 rfl ?_
            have ff20 := w_this hw18_
            refine jd_get in_X1 ff20 0 q283 dX1_search_67 rfl (Nat.le_of_ble_eq_true rfl) rfl ?_
            refine jd_iload_n dX1_search_70 rfl ?_
            obtain ⟨mcl21, hl21_⟩ := w_lands hw18_
            refine jd_pF (n := 1) (As := [.int (nI to)]) (rest := []) (ct_J2_get hl21_ (show 6 ≤ 900 by omega) (k := to) (show to < 6 by omega)) (jd_rv hl21_ 15 rfl rfl) (ci := 15) rfl (List.mem_of_getElem? (i := 1) rfl) rfl q320 q323 q325 q83 q327 q322 q326 q324 q207 ⟨by decide, by decide, by decide +kernel⟩ dX1_search_71 rfl rfl (Nat.le_of_ble_eq_true rfl) ⟨(Nat.le_of_ble_eq_true rfl), (Nat.le_of_ble_eq_true rfl)⟩ ?_
            have ff22 := w_land hw18_
            refine jd_castS (jd_rv (ff22 to (show to < 6 by omega)) 2 rfl rfl) (ci := 2) rfl q175 dX1_search_76 ?_
            refine jd_dup dX1_search_79 rfl ?_
            refine jd_getN in_X3 (ff22 to (show to < 6 by omega)) 5 q189 dX1_search_80 rfl (Nat.le_of_ble_eq_true rfl) rfl ?_
            refine jd_aload dX1_search_83 rfl ?_
            have ff23 := w_part hw18_
            refine jd_getN in_X11 (ff23 k (show k < nP κ by omega)) 1 q904 dX1_search_85 rfl (Nat.le_of_ble_eq_true rfl) rfl ?_
            refine jd_iadd dX1_search_88 ?_
            refine jd_putN (fs' := [_, _, _, _, _, _]) in_X3 tyX3_ok nmX3 (ff22 to (show to < 6 by omega)) 5 q189 dX1_search_89 rfl (Nat.le_of_ble_eq_true rfl) rfl rfl rfl (Nat.le_of_ble_eq_true rfl) rfl ?_
            refine jd_updG (fun h24 hs24 ho24 => ?_)
            have hw24 := wu_lFin hw18_ (k := to) (show to < 6 by omega) (v := ((lFin (k_keep (k_hide (k_sea κ s H to c k) s k) k to 3) to) + (pWorth (k_keep (k_hide (k_sea κ s H to c k) s k) k to 3) k))) hs24 ho24
            refine jd_iinc (v := ((ll_cnt (fun p => ll_has H p ∧ c) k) + 1)) (ls' := [_, _, _, _, _, _, _, _]) dX1_search_92 rfl (by first | rfl | decide) (Nat.le_of_ble_eq_true rfl) rfl rfl ?_
            refine jd_goto (tgt := 106) dX1_search_95 (by decide) ?_
            refine jd_iincN (n := 1) (ls' := [_, _, _, _, _, _, _, _]) dX1_search_106 rfl (Nat.le_of_ble_eq_true rfl) rfl rfl ?_
            refine jd_goto (tgt := 6) dX1_search_109 (by decide) ?_
            have hw3 : WC G (ll_b9 β b12) (k_sea κ s H to c (k + 1)) h24 := by rw [← sea_caught z11 z15]; exact hw24
            refine jd_wk (cb' := 2 * (j) + 0) (sb' := 80 * (j) + 0) ?_ (by omega) (by omega)
            refine jd_lsub [some (.ref (β 0 0)), some (.ref (β 5 s)), some (.int (H)), some (.int (nI to)), some (.int (jd_b (c))), some (.int ((ll_cnt (fun p => ll_has H p ∧ c) (k + 1)))), some (.int (nI (k + 1))), none] ⟨rfl, rfl, rfl, rfl, rfl, (congrArg (fun x => some (Value.int x)) (cnt_y (P := fun p => ll_has H p ∧ c) ⟨z11, z15⟩)), rfl, trivial⟩ ?_
            exact ih6 (k + 1) (by omega) b12 h24 hw3 (fun j hj => ((ho24 j (ll_nek (by decide) hj)).trans ((hf18_ j hj).trans ((hf12_ j hj).trans (hf2 j hj)))))
  refine jd_wk (cb' := 2 * (nP κ) + 0) (sb' := 80 * (nP κ) + 0) ?_ (by omega) (by omega)
  refine jd_lsub [some (.ref (β 0 0)), some (.ref (β 5 s)), some (.int (H)), some (.int (nI to)), some (.int (jd_b (c))), some (.int ((ll_cnt (fun p => ll_has H p ∧ c) 0))), some (.int (nI 0)), none] ⟨rfl, rfl, rfl, rfl, rfl, rfl, rfl, trivial⟩ ?_
  exact lp6_1 (nP κ) 0 (by omega) (β 9) h (by rw [ll_b9_id, sea0]; exact hw) (fun _ _ => rfl)

set_option maxRecDepth 20000 in
set_option maxHeartbeats 2000000 in
theorem ct_X1_declare {G : jd_G} {β : ll_B} {κ : ll_K} {h : jd_H} (hw : WC G β κ h) (hI : ll_I κ) (s : Nat) (D : Int32) (to : Nat) (hs : s < nS κ) (ht : to < 6) : jd_Ct G mX1_declare 4 (0) (0) [.ref (β 0 0), .ref (β 5 s), .int (D), .int (nI to)] h (jd_ef G β (k_declare κ s D to) h none) jd_no := by
  obtain ⟨⟨hG8, hS12, hP24, hH40, hN99, hH24⟩, hIg, hIs, hIp, hIh, hIl, hIq⟩ := id hI
  obtain ⟨mcL, hlL⟩ := w_lands hw
  obtain ⟨mcG, hlG⟩ := w_gates hw
  obtain ⟨mcS, hlS⟩ := w_sleepers hw
  obtain ⟨mcP, hlP⟩ := w_parts hw
  obtain ⟨mcH, hlH⟩ := w_hidings hw
  refine jd_ct (ls := [some (.ref (β 0 0)), some (.ref (β 5 s)), some (.int (D)), some (.int (nI to)), none, none, none, none, none]) rfl rfl (by decide) (Nat.le_of_ble_eq_true rfl) rfl ?_
  refine jd_aload_n dX1_declare_0 rfl ?_
  refine jd_get in_X1 ((w_this hw)) 0 q283 dX1_declare_1 rfl (Nat.le_of_ble_eq_true rfl) rfl ?_
  refine jd_iload_n dX1_declare_4 rfl ?_
  refine jd_pF (n := 1) (As := [.int (nI to)]) (rest := []) (ct_J2_get hlL (show 6 ≤ 900 by omega) (k := to) (show to < 6 by omega)) (jd_rv hlL 15 rfl rfl) (ci := 15) rfl (List.mem_of_getElem? (i := 1) rfl) rfl q320 q323 q325 q83 q327 q322 q326 q324 q207 ⟨by decide, by decide, by decide +kernel⟩ dX1_declare_5 rfl rfl (Nat.le_of_ble_eq_true rfl) ⟨(Nat.le_of_ble_eq_true rfl), (Nat.le_of_ble_eq_true rfl)⟩ ?_
  refine jd_castS (jd_rv (((w_land hw)) to (show to < 6 by omega)) 2 rfl rfl) (ci := 2) rfl q175 dX1_declare_10 ?_
  refine jd_astore (ls' := [_, _, _, _, _, _, _, _, _]) dX1_declare_13 (Nat.le_of_ble_eq_true rfl) rfl rfl ?_
  refine jd_aload_n dX1_declare_15 rfl ?_
  refine jd_iload_n dX1_declare_16 rfl ?_
  refine jd_aload dX1_declare_17 rfl ?_
  refine jd_pV (As := [.int (D), .ref (β 1 to)]) (rest := []) (ct_X1_allowed hw hI (D) (to) (by omega)) (jd_rv ((w_this hw)) 0 rfl rfl) rfl q517 q519 qs22 q80 q520 nX1_allowed dX1_declare_19 rfl rfl rfl (Nat.le_of_ble_eq_true rfl) ⟨(Nat.le_of_ble_eq_true rfl), (Nat.le_of_ble_eq_true rfl)⟩ ?_
  refine jd_istore (ls' := [_, _, _, _, _, _, _, _, _]) dX1_declare_22 (Nat.le_of_ble_eq_true rfl) rfl rfl ?_
  refine jd_aload_n dX1_declare_24 rfl ?_
  refine jd_iload dX1_declare_25 rfl ?_
  refine jd_pV (As := [.int ((allowed κ (D) to))]) (rest := []) (ct_X1_worthOf hw hI ((allowed κ (D) to))) (jd_rv ((w_this hw)) 0 rfl rfl) rfl q478 q480 qs19 q80 q481 nX1_worthOf dX1_declare_27 rfl rfl rfl (Nat.le_of_ble_eq_true rfl) ⟨(Nat.le_of_ble_eq_true rfl), (Nat.le_of_ble_eq_true rfl)⟩ ?_
  refine jd_istore (ls' := [_, _, _, _, _, _, _, _, _]) dX1_declare_30 (Nat.le_of_ble_eq_true rfl) rfl rfl ?_
  refine jd_iconst (v := 0) dX1_declare_32 (by decide) ?_
  refine jd_istore (ls' := [_, _, _, _, _, _, _, _, _]) dX1_declare_33 (Nat.le_of_ble_eq_true rfl) rfl rfl ?_
  have lp35_1 : ∀ (j : Nat) (k : Nat) (hk0 : k + j = nP κ) (hh : jd_H) (hw2 : WC G β (k_decl κ (sLand κ s) (allowed κ D to) D (worthOf κ (allowed κ D to)) to k) hh) (hf2 : ∀ j : jd_Id, 20 ≤ j.1 → hh j = h j), jd_W G mX1_declare 4 (0) (0) 35 [some (.ref (β 0 0)), some (.ref (β 5 s)), some (.int (D)), some (.int (nI to)), some (.ref (β 1 to)), some (.int ((allowed κ (D) to))), some (.int ((worthOf κ ((allowed κ (D) to))))), some (.int (nI k)), none] [] hh (jd_ef G β (k_declare κ s D to) h none) jd_no := by
    intro j
    induction j with
    | zero =>
      intro k hk0 hh hw2 hf2
      obtain rfl : k = nP κ := by omega
      refine jd_iload dX1_declare_35 rfl ?_
      refine jd_aload_n dX1_declare_37 rfl ?_
      refine jd_get in_X1 ((w_this hw2)) 3 q286 dX1_declare_38 rfl (Nat.le_of_ble_eq_true rfl) rfl ?_
      obtain ⟨mcl2, hl2_⟩ := w_parts hw2
      refine jd_pF (n := 0) (As := []) (rest := [.int (nI (nP κ))]) (ct_J2_size hl2_ (show nP κ ≤ 900 by omega)) (jd_rv hl2_ 15 rfl rfl) (ci := 15) rfl (List.mem_of_getElem? (i := 2) rfl) rfl q339 q342 q344 q83 q346 q341 q345 q343 q207 ⟨by decide, by decide, by decide +kernel⟩ dX1_declare_41 rfl rfl (Nat.le_of_ble_eq_true rfl) ⟨(Nat.le_of_ble_eq_true rfl), (Nat.le_of_ble_eq_true rfl)⟩ ?_
      refine jd_ncmp_ge (a := nP κ) (b := nP κ) (tgt := 152) dX1_declare_46 (by decide) (by omega) (by omega) (fun z3 => ?_) (fun z4 => ?_)
      · refine jd_aload dX1_declare_152 rfl ?_
        refine jd_dup dX1_declare_154 rfl ?_
        refine jd_getN in_X3 (((w_land hw2)) to (show to < 6 by omega)) 4 q188 dX1_declare_155 rfl (Nat.le_of_ble_eq_true rfl) rfl ?_
        refine jd_aload dX1_declare_158 rfl ?_
        refine jd_iload dX1_declare_160 rfl ?_
        refine jd_pV (As := [.int ((worthOf κ ((allowed κ (D) to))))]) (rest := [.int ((lDut (k_decl κ (sLand κ s) (allowed κ D to) D (worthOf κ (allowed κ D to)) to (nP κ)) to)), .ref (β 1 to)]) (ct_X3_duty (((w_land hw2)) to (show to < 6 by omega)) ((worthOf κ ((allowed κ (D) to))))) (jd_rv (((w_land hw2)) to (show to < 6 by omega)) 2 rfl rfl) rfl q525 q526 q527 q85 q528 nX3_duty dX1_declare_162 rfl rfl rfl (Nat.le_of_ble_eq_true rfl) ⟨(Nat.le_of_ble_eq_true rfl), (Nat.le_of_ble_eq_true rfl)⟩ ?_
        refine jd_iadd dX1_declare_165 ?_
        refine jd_putN (fs' := [_, _, _, _, _, _]) in_X3 tyX3_ok nmX3 (((w_land hw2)) to (show to < 6 by omega)) 4 q188 dX1_declare_166 rfl (Nat.le_of_ble_eq_true rfl) rfl rfl rfl (Nat.le_of_ble_eq_true rfl) rfl ?_
        refine jd_updG (fun h5 hs5 ho5 => ?_)
        have hw5 := wu_lDut hw2 (k := to) (show to < 6 by omega) (v := ((lDut (k_decl κ (sLand κ s) (allowed κ D to) D (worthOf κ (allowed κ D to)) to (nP κ)) to) + (if ((lAll (k_decl κ (sLand κ s) (allowed κ D to) D (worthOf κ (allowed κ D to)) to (nP κ)) to)) < ((worthOf κ ((allowed κ (D) to)))) then (((((worthOf κ ((allowed κ (D) to)))) - ((lAll (k_decl κ (sLand κ s) (allowed κ D to) D (worthOf κ (allowed κ D to)) to (nP κ)) to))) * ((lRate (k_decl κ (sLand κ s) (allowed κ D to) D (worthOf κ (allowed κ D to)) to (nP κ)) to))) / 100) else 0))) hs5 ho5
        exact jd_vret dX1_declare_169 rfl ⟨rfl, hw5, (fun j hj => ((ho5 j (ll_nek (by decide) hj)).trans (hf2 j hj)))⟩
      · omega
    | succ j ih35 =>
      intro k hk0 hh hw2 hf2
      refine jd_iload dX1_declare_35 rfl ?_
      refine jd_aload_n dX1_declare_37 rfl ?_
      refine jd_get in_X1 ((w_this hw2)) 3 q286 dX1_declare_38 rfl (Nat.le_of_ble_eq_true rfl) rfl ?_
      obtain ⟨mcl6, hl6_⟩ := w_parts hw2
      refine jd_pF (n := 0) (As := []) (rest := [.int (nI k)]) (ct_J2_size hl6_ (show nP κ ≤ 900 by omega)) (jd_rv hl6_ 15 rfl rfl) (ci := 15) rfl (List.mem_of_getElem? (i := 2) rfl) rfl q339 q342 q344 q83 q346 q341 q345 q343 q207 ⟨by decide, by decide, by decide +kernel⟩ dX1_declare_41 rfl rfl (Nat.le_of_ble_eq_true rfl) ⟨(Nat.le_of_ble_eq_true rfl), (Nat.le_of_ble_eq_true rfl)⟩ ?_
      refine jd_ncmp_ge (a := k) (b := nP κ) (tgt := 152) dX1_declare_46 (by decide) (by omega) (by omega) (fun z7 => ?_) (fun z8 => ?_)
      · omega
      · refine jd_aload_n dX1_declare_49 rfl ?_
        refine jd_get in_X1 ((w_this hw2)) 3 q286 dX1_declare_50 rfl (Nat.le_of_ble_eq_true rfl) rfl ?_
        refine jd_iload dX1_declare_53 rfl ?_
        refine jd_pF (n := 1) (As := [.int (nI k)]) (rest := []) (ct_J2_get hl6_ (show nP κ ≤ 900 by omega) (k := k) (show k < nP κ by omega)) (jd_rv hl6_ 15 rfl rfl) (ci := 15) rfl (List.mem_of_getElem? (i := 1) rfl) rfl q320 q323 q325 q83 q327 q322 q326 q324 q207 ⟨by decide, by decide, by decide +kernel⟩ dX1_declare_55 rfl rfl (Nat.le_of_ble_eq_true rfl) ⟨(Nat.le_of_ble_eq_true rfl), (Nat.le_of_ble_eq_true rfl)⟩ ?_
        refine jd_castS (jd_rv (((w_part hw2)) k (show k < nP κ by omega)) 5 rfl rfl) (ci := 5) rfl q377 dX1_declare_60 ?_
        refine jd_astore (ls' := [_, _, _, _, _, _, _, _, _]) dX1_declare_63 (Nat.le_of_ble_eq_true rfl) rfl rfl ?_
        refine jd_iload dX1_declare_65 rfl ?_
        refine jd_iload dX1_declare_67 rfl ?_
        refine jd_pS (As := [.int ((allowed κ (D) to)), .int (nI k)]) (rest := []) (ct_X1_has ((allowed κ (D) to)) (nI k)) rfl q482 q483 q80 q484 nX1_has dX1_declare_69 rfl rfl (Nat.le_of_ble_eq_true rfl) ⟨(Nat.le_of_ble_eq_true rfl), (Nat.le_of_ble_eq_true rfl)⟩ ?_
        refine jd_bif_eq (tgt := 125) dX1_declare_72 (by decide) (fun z9 => ?_) (fun z10 => ?_)
        · refine jd_iload_n dX1_declare_125 rfl ?_
          refine jd_iload dX1_declare_126 rfl ?_
          refine jd_pS (As := [.int (D), .int (nI k)]) (rest := []) (ct_X1_has (D) (nI k)) rfl q482 q483 q80 q484 nX1_has dX1_declare_128 rfl rfl (Nat.le_of_ble_eq_true rfl) ⟨(Nat.le_of_ble_eq_true rfl), (Nat.le_of_ble_eq_true rfl)⟩ ?_
          refine jd_bif_eq (tgt := 146) dX1_declare_131 (by decide) (fun z11 => ?_) (fun z12 => ?_)
          · refine jd_iincN (n := 1) (ls' := [_, _, _, _, _, _, _, _, _]) dX1_declare_146 rfl (Nat.le_of_ble_eq_true rfl) rfl rfl ?_
            refine jd_goto (tgt := 35) dX1_declare_149 (by decide) ?_
            have hw3 : WC G β (k_decl κ (sLand κ s) (allowed κ D to) D (worthOf κ (allowed κ D to)) to (k + 1)) hh := by rw [← decl_no (κ := κ) z9 z11]; exact hw2
            refine jd_lsub [some (.ref (β 0 0)), some (.ref (β 5 s)), some (.int (D)), some (.int (nI to)), some (.ref (β 1 to)), some (.int ((allowed κ (D) to))), some (.int ((worthOf κ ((allowed κ (D) to))))), some (.int (nI (k + 1))), none] ⟨rfl, rfl, rfl, rfl, rfl, rfl, rfl, rfl, trivial⟩ ?_
            exact ih35 (k + 1) (by omega) hh hw3 (fun j hj => (hf2 j hj))
          · refine jd_aload dX1_declare_134 rfl ?_
            refine jd_aload_n dX1_declare_136 rfl ?_
            refine jd_getN in_X9 (((w_sleeper hw2)) s (show s < nS κ by omega)) 2 q854 dX1_declare_137 rfl (Nat.le_of_ble_eq_true rfl) rfl ?_
            refine jd_gets (jd_zF (k := 5) (by decide) rfl) q1085 dX1_declare_140 ?_
            refine jd_callV (As := [.int (nI ((sLand (k_decl κ (sLand κ s) (allowed κ D to) D (worthOf κ (allowed κ D to)) to k) s))), .ref (jd_fA G 5)]) (rest := []) (ct_X11_keep hw2 (k) ((sLand (k_decl κ (sLand κ s) (allowed κ D to) D (worthOf κ (allowed κ D to)) to k) s)) (5) (show k < nP κ by omega)) (jd_rv (((w_part hw2)) k (show k < nP κ by omega)) 5 rfl rfl) rfl q1071 q1072 q1073 q110 q1074 nX11_keep dX1_declare_143 rfl rfl rfl (Nat.le_of_ble_eq_true rfl) ⟨(Nat.le_of_ble_eq_true rfl), (Nat.le_of_ble_eq_true rfl), by omega, by omega⟩ (fun rv12 hn12 hq12 => ?_) jd_nox
            obtain ⟨rfl, hw12_, hf12_⟩ := hq12
            refine jd_iincN (n := 1) (ls' := [_, _, _, _, _, _, _, _, _]) dX1_declare_146 rfl (Nat.le_of_ble_eq_true rfl) rfl rfl ?_
            refine jd_goto (tgt := 35) dX1_declare_149 (by decide) ?_
            have hw3 : WC G β (k_decl κ (sLand κ s) (allowed κ D to) D (worthOf κ (allowed κ D to)) to (k + 1)) hn12 := by rw [← decl_out (κ := κ) z9 z12]; exact hw12_
            refine jd_lsub [some (.ref (β 0 0)), some (.ref (β 5 s)), some (.int (D)), some (.int (nI to)), some (.ref (β 1 to)), some (.int ((allowed κ (D) to))), some (.int ((worthOf κ ((allowed κ (D) to))))), some (.int (nI (k + 1))), none] ⟨rfl, rfl, rfl, rfl, rfl, rfl, rfl, rfl, trivial⟩ ?_
            exact ih35 (k + 1) (by omega) hn12 hw3 (fun j hj => ((hf12_ j hj).trans (hf2 j hj)))
        · refine jd_aload dX1_declare_75 rfl ?_
          refine jd_iload dX1_declare_77 rfl ?_
          refine jd_aload dX1_declare_79 rfl ?_
          refine jd_getN in_X3 (((w_land hw2)) to (show to < 6 by omega)) 1 q184 dX1_declare_81 rfl (Nat.le_of_ble_eq_true rfl) rfl ?_
          refine jd_icmp_gt (tgt := 93) dX1_declare_84 (by decide) (fun z14 => ?_) (fun z15 => ?_)
          · refine jd_gets (jd_zF (k := 1) (by decide) rfl) q1083 dX1_declare_93 ?_
            refine jd_putN (fs' := [_, _, _, _, _, _, _]) in_X11 tyX11_ok nmX11 (((w_part hw2)) k (show k < nP κ by omega)) 5 q912 dX1_declare_96 rfl (Nat.le_of_ble_eq_true rfl) rfl rfl rfl (Nat.le_of_ble_eq_true rfl) rfl ?_
            refine jd_updG (fun h16 hs16 ho16 => ?_)
            have hw16 := wu_pFate hw2 (k := k) (show k < nP κ by omega) (v := 1) hs16 ho16
            refine jd_aload dX1_declare_99 rfl ?_
            refine jd_dup dX1_declare_101 rfl ?_
            refine jd_getN in_X3 (((w_land hw16)) to (show to < 6 by omega)) 3 q187 dX1_declare_102 rfl (Nat.le_of_ble_eq_true rfl) rfl ?_
            refine jd_aload dX1_declare_105 rfl ?_
            refine jd_pV (As := []) (rest := [.int ((lNight (ll_sn (k_decl κ (sLand κ s) (allowed κ D to) D (worthOf κ (allowed κ D to)) to k) 4 k 1) to)), .ref (β 1 to)]) (ct_X11_isNightmare (((w_part hw16)) k (show k < nP κ by omega))) (jd_rv (((w_part hw16)) k (show k < nP κ by omega)) 5 rfl rfl) rfl q521 q522 q523 q110 q524 nX11_isNightmare dX1_declare_107 rfl rfl rfl (Nat.le_of_ble_eq_true rfl) ⟨(Nat.le_of_ble_eq_true rfl), (Nat.le_of_ble_eq_true rfl)⟩ ?_
            refine jd_mg1 118 (.int (jd_b (((¬ (((pDread (ll_sn (k_decl κ (sLand κ s) (allowed κ D to) D (worthOf κ (allowed κ D to)) to k) 4 k 1) k)) < 5)))))) (fun hj17 => ?_) ?_
            · refine jd_bif_eq (tgt := 117) dX1_declare_110 (by decide) (fun z18 => ?_) (fun z19 => ?_)
              · refine jd_iconst (v := 0) dX1_declare_117 (by decide) ?_
                exact jd_top (congrArg Value.int (jd_b0 z18).symm) hj17
              · refine jd_iconst (v := 1) dX1_declare_113 (by decide) ?_
                refine jd_goto (tgt := 118) dX1_declare_114 (by decide) ?_
                exact jd_top (congrArg Value.int (jd_b1 z19).symm) hj17
            · refine jd_iadd dX1_declare_118 ?_
              refine jd_putN (fs' := [_, _, _, _, _, _]) in_X3 tyX3_ok nmX3 (((w_land hw16)) to (show to < 6 by omega)) 3 q187 dX1_declare_119 rfl (Nat.le_of_ble_eq_true rfl) rfl rfl rfl (Nat.le_of_ble_eq_true rfl) rfl ?_
              refine jd_updG (fun h20 hs20 ho20 => ?_)
              have hw20 := wu_lNight hw16 (k := to) (show to < 6 by omega) (v := ((lNight (ll_sn (k_decl κ (sLand κ s) (allowed κ D to) D (worthOf κ (allowed κ D to)) to k) 4 k 1) to) + jd_b (((¬ (((pDread (ll_sn (k_decl κ (sLand κ s) (allowed κ D to) D (worthOf κ (allowed κ D to)) to k) 4 k 1) k)) < 5)))))) hs20 ho20
              refine jd_goto (tgt := 146) dX1_declare_122 (by decide) ?_
              refine jd_iincN (n := 1) (ls' := [_, _, _, _, _, _, _, _, _]) dX1_declare_146 rfl (Nat.le_of_ble_eq_true rfl) rfl rfl ?_
              refine jd_goto (tgt := 35) dX1_declare_149 (by decide) ?_
              have hw3 : WC G β (k_decl κ (sLand κ s) (allowed κ D to) D (worthOf κ (allowed κ D to)) to (k + 1)) h20 := by rw [← decl_in (κ := κ) (f := 1) z10 (if_neg (fun w => w z14)).symm]; exact hw20
              refine jd_lsub [some (.ref (β 0 0)), some (.ref (β 5 s)), some (.int (D)), some (.int (nI to)), some (.ref (β 1 to)), some (.int ((allowed κ (D) to))), some (.int ((worthOf κ ((allowed κ (D) to))))), some (.int (nI (k + 1))), none] ⟨rfl, rfl, rfl, rfl, rfl, rfl, rfl, rfl, trivial⟩ ?_
              exact ih35 (k + 1) (by omega) h20 hw3 (fun j hj => ((ho20 j (ll_nek (by decide) hj)).trans ((ho16 j (ll_nek (by decide) hj)).trans (hf2 j hj))))
          · refine jd_gets (jd_zF (k := 2) (by decide) rfl) q1081 dX1_declare_87 ?_
            refine jd_goto (tgt := 96) dX1_declare_90 (by decide) ?_
            refine jd_putN (fs' := [_, _, _, _, _, _, _]) in_X11 tyX11_ok nmX11 (((w_part hw2)) k (show k < nP κ by omega)) 5 q912 dX1_declare_96 rfl (Nat.le_of_ble_eq_true rfl) rfl rfl rfl (Nat.le_of_ble_eq_true rfl) rfl ?_
            refine jd_updG (fun h21 hs21 ho21 => ?_)
            have hw21 := wu_pFate hw2 (k := k) (show k < nP κ by omega) (v := 2) hs21 ho21
            refine jd_aload dX1_declare_99 rfl ?_
            refine jd_dup dX1_declare_101 rfl ?_
            refine jd_getN in_X3 (((w_land hw21)) to (show to < 6 by omega)) 3 q187 dX1_declare_102 rfl (Nat.le_of_ble_eq_true rfl) rfl ?_
            refine jd_aload dX1_declare_105 rfl ?_
            refine jd_pV (As := []) (rest := [.int ((lNight (ll_sn (k_decl κ (sLand κ s) (allowed κ D to) D (worthOf κ (allowed κ D to)) to k) 4 k 2) to)), .ref (β 1 to)]) (ct_X11_isNightmare (((w_part hw21)) k (show k < nP κ by omega))) (jd_rv (((w_part hw21)) k (show k < nP κ by omega)) 5 rfl rfl) rfl q521 q522 q523 q110 q524 nX11_isNightmare dX1_declare_107 rfl rfl rfl (Nat.le_of_ble_eq_true rfl) ⟨(Nat.le_of_ble_eq_true rfl), (Nat.le_of_ble_eq_true rfl)⟩ ?_
            refine jd_mg1 118 (.int (jd_b (((¬ (((pDread (ll_sn (k_decl κ (sLand κ s) (allowed κ D to) D (worthOf κ (allowed κ D to)) to k) 4 k 2) k)) < 5)))))) (fun hj22 => ?_) ?_
            · refine jd_bif_eq (tgt := 117) dX1_declare_110 (by decide) (fun z23 => ?_) (fun z24 => ?_)
              · refine jd_iconst (v := 0) dX1_declare_117 (by decide) ?_
                exact jd_top (congrArg Value.int (jd_b0 z23).symm) hj22
              · refine jd_iconst (v := 1) dX1_declare_113 (by decide) ?_
                refine jd_goto (tgt := 118) dX1_declare_114 (by decide) ?_
                exact jd_top (congrArg Value.int (jd_b1 z24).symm) hj22
            · refine jd_iadd dX1_declare_118 ?_
              refine jd_putN (fs' := [_, _, _, _, _, _]) in_X3 tyX3_ok nmX3 (((w_land hw21)) to (show to < 6 by omega)) 3 q187 dX1_declare_119 rfl (Nat.le_of_ble_eq_true rfl) rfl rfl rfl (Nat.le_of_ble_eq_true rfl) rfl ?_
              refine jd_updG (fun h25 hs25 ho25 => ?_)
              have hw25 := wu_lNight hw21 (k := to) (show to < 6 by omega) (v := ((lNight (ll_sn (k_decl κ (sLand κ s) (allowed κ D to) D (worthOf κ (allowed κ D to)) to k) 4 k 2) to) + jd_b (((¬ (((pDread (ll_sn (k_decl κ (sLand κ s) (allowed κ D to) D (worthOf κ (allowed κ D to)) to k) 4 k 2) k)) < 5)))))) hs25 ho25
              refine jd_goto (tgt := 146) dX1_declare_122 (by decide) ?_
              refine jd_iincN (n := 1) (ls' := [_, _, _, _, _, _, _, _, _]) dX1_declare_146 rfl (Nat.le_of_ble_eq_true rfl) rfl rfl ?_
              refine jd_goto (tgt := 35) dX1_declare_149 (by decide) ?_
              have hw3 : WC G β (k_decl κ (sLand κ s) (allowed κ D to) D (worthOf κ (allowed κ D to)) to (k + 1)) h25 := by rw [← decl_in (κ := κ) (f := 2) z10 (if_pos z15).symm]; exact hw25
              refine jd_lsub [some (.ref (β 0 0)), some (.ref (β 5 s)), some (.int (D)), some (.int (nI to)), some (.ref (β 1 to)), some (.int ((allowed κ (D) to))), some (.int ((worthOf κ ((allowed κ (D) to))))), some (.int (nI (k + 1))), none] ⟨rfl, rfl, rfl, rfl, rfl, rfl, rfl, rfl, trivial⟩ ?_
              exact ih35 (k + 1) (by omega) h25 hw3 (fun j hj => ((ho25 j (ll_nek (by decide) hj)).trans ((ho21 j (ll_nek (by decide) hj)).trans (hf2 j hj))))
  refine jd_lsub [some (.ref (β 0 0)), some (.ref (β 5 s)), some (.int (D)), some (.int (nI to)), some (.ref (β 1 to)), some (.int ((allowed κ (D) to))), some (.int ((worthOf κ ((allowed κ (D) to))))), some (.int (nI 0)), none] ⟨rfl, rfl, rfl, rfl, rfl, rfl, rfl, rfl, trivial⟩ ?_
  exact lp35_1 (nP κ) 0 (by omega) h (by rw [decl0]; exact hw) (fun _ _ => rfl)

set_option maxRecDepth 20000 in
set_option maxHeartbeats 2000000 in
theorem ct_X1_wake {G : jd_G} {β : ll_B} {κ : ll_K} {h : jd_H} (hw : WC G β κ h) (s : Nat) (hs : s < nS κ) (h24 : nP κ ≤ 24) (h12 : nS κ ≤ 12) (hpb : ∀ p, p < nP κ → ∀ j, pHead κ p = some j → j < 2 ^ 31) : jd_Ct G mX1_wake 3 (0) (0) [.ref (β 0 0), .ref (β 5 s)] h (jd_ef G β (k_wake κ s) h none) jd_no := by
  have hnone := True.intro
  refine jd_ct (ls := [some (.ref (β 0 0)), some (.ref (β 5 s)), none, none]) rfl rfl (by decide) (Nat.le_of_ble_eq_true rfl) rfl ?_
  refine jd_aload_n dX1_wake_0 rfl ?_
  refine jd_callV (As := []) (rest := []) (ct_X9_lie hw (s) (show s < nS κ by omega)) (jd_rv (((w_sleeper hw)) s (show s < nS κ by omega)) 4 rfl rfl) rfl q1026 q1027 q1028 q105 q1029 nX9_lie dX1_wake_1 rfl rfl rfl (Nat.le_of_ble_eq_true rfl) ⟨(Nat.le_of_ble_eq_true rfl), (Nat.le_of_ble_eq_true rfl), by omega, by omega⟩ (fun rv0 hn0 hq0 => ?_) jd_nox
  obtain ⟨rfl, hw0_, hf0_⟩ := hq0
  refine jd_aload_n dX1_wake_4 rfl ?_
  refine jd_gets (jd_zR (k := 2) (by decide) rfl) q371 dX1_wake_5 ?_
  refine jd_putN (fs' := [_, _, _, _, _, _, _, _]) in_X9 tyX9_ok nmX9 (((w_sleeper hw0_)) s (show s < nS κ by omega)) 4 q858 dX1_wake_8 rfl (Nat.le_of_ble_eq_true rfl) rfl rfl rfl (Nat.le_of_ble_eq_true rfl) rfl ?_
  refine jd_updG (fun h2 hs2 ho2 => ?_)
  have hw2 := wu_sRest hw0_ (k := s) (show s < nS κ by omega) (v := 2) hs2 ho2
  refine jd_iconst (v := 0) dX1_wake_11 (by decide) ?_
  refine jd_istore_n (ls' := [_, _, _, _]) dX1_wake_12 (Nat.le_of_ble_eq_true rfl) rfl rfl ?_
  have lp13_3 : ∀ (j : Nat) (k : Nat) (hk0 : k + j = nP κ) (hh : jd_H) (hw2 : WC G β (k_wk (ll_sn (k_lie κ s) 3 s 2) s k) hh) (hf2 : ∀ j : jd_Id, 20 ≤ j.1 → hh j = h j), jd_W G mX1_wake 3 (0 - 0) (0 - 0) 13 [some (.ref (β 0 0)), some (.ref (β 5 s)), some (.int (nI k)), none] [] hh (jd_ef G β (k_wake κ s) h none) jd_no := by
    intro j
    induction j with
    | zero =>
      intro k hk0 hh hw2 hf2
      obtain rfl : k = nP κ := by omega
      refine jd_iload_n dX1_wake_13 rfl ?_
      refine jd_aload_n dX1_wake_14 rfl ?_
      refine jd_get in_X1 ((w_this hw2)) 3 q286 dX1_wake_15 rfl (Nat.le_of_ble_eq_true rfl) rfl ?_
      obtain ⟨mcl4, hl4_⟩ := w_parts hw2
      refine jd_pF (n := 0) (As := []) (rest := [.int (nI (nP κ))]) (ct_J2_size hl4_ (show nP κ ≤ 900 by omega)) (jd_rv hl4_ 15 rfl rfl) (ci := 15) rfl (List.mem_of_getElem? (i := 2) rfl) rfl q339 q342 q344 q83 q346 q341 q345 q343 q207 ⟨by decide, by decide, by decide +kernel⟩ dX1_wake_18 rfl rfl (Nat.le_of_ble_eq_true rfl) ⟨(Nat.le_of_ble_eq_true rfl), (Nat.le_of_ble_eq_true rfl)⟩ ?_
      refine jd_ncmp_ge (a := nP κ) (b := nP κ) (tgt := 69) dX1_wake_23 (by decide) (by omega) (by omega) (fun z5 => ?_) (fun z6 => ?_)
      · exact jd_vret dX1_wake_69 rfl ⟨rfl, hw2, (fun j hj => (hf2 j hj))⟩
      · omega
    | succ j ih13 =>
      intro k hk0 hh hw2 hf2
      refine jd_iload_n dX1_wake_13 rfl ?_
      refine jd_aload_n dX1_wake_14 rfl ?_
      refine jd_get in_X1 ((w_this hw2)) 3 q286 dX1_wake_15 rfl (Nat.le_of_ble_eq_true rfl) rfl ?_
      obtain ⟨mcl7, hl7_⟩ := w_parts hw2
      refine jd_pF (n := 0) (As := []) (rest := [.int (nI k)]) (ct_J2_size hl7_ (show nP κ ≤ 900 by omega)) (jd_rv hl7_ 15 rfl rfl) (ci := 15) rfl (List.mem_of_getElem? (i := 2) rfl) rfl q339 q342 q344 q83 q346 q341 q345 q343 q207 ⟨by decide, by decide, by decide +kernel⟩ dX1_wake_18 rfl rfl (Nat.le_of_ble_eq_true rfl) ⟨(Nat.le_of_ble_eq_true rfl), (Nat.le_of_ble_eq_true rfl)⟩ ?_
      refine jd_ncmp_ge (a := k) (b := nP κ) (tgt := 69) dX1_wake_23 (by decide) (by omega) (by omega) (fun z8 => ?_) (fun z9 => ?_)
      · omega
      · refine jd_aload_n dX1_wake_26 rfl ?_
        refine jd_get in_X1 ((w_this hw2)) 3 q286 dX1_wake_27 rfl (Nat.le_of_ble_eq_true rfl) rfl ?_
        refine jd_iload_n dX1_wake_30 rfl ?_
        refine jd_pF (n := 1) (As := [.int (nI k)]) (rest := []) (ct_J2_get hl7_ (show nP κ ≤ 900 by omega) (k := k) (show k < nP κ by omega)) (jd_rv hl7_ 15 rfl rfl) (ci := 15) rfl (List.mem_of_getElem? (i := 1) rfl) rfl q320 q323 q325 q83 q327 q322 q326 q324 q207 ⟨by decide, by decide, by decide +kernel⟩ dX1_wake_31 rfl rfl (Nat.le_of_ble_eq_true rfl) ⟨(Nat.le_of_ble_eq_true rfl), (Nat.le_of_ble_eq_true rfl)⟩ ?_
        refine jd_castS (jd_rv (((w_part hw2)) k (show k < nP κ by omega)) 5 rfl rfl) (ci := 5) rfl q377 dX1_wake_36 ?_
        refine jd_astore_n (ls' := [_, _, _, _]) dX1_wake_39 (Nat.le_of_ble_eq_true rfl) rfl rfl ?_
        refine jd_aload_n dX1_wake_40 rfl ?_
        refine jd_aload_n dX1_wake_41 rfl ?_
        refine jd_getN in_X11 (((w_part hw2)) k (show k < nP κ by omega)) 3 q908 dX1_wake_42 rfl (Nat.le_of_ble_eq_true rfl) rfl ?_
        refine jd_aload_n dX1_wake_45 rfl ?_
        refine jd_getN in_X9 (((w_sleeper hw2)) s (show s < nS κ by omega)) 0 q849 dX1_wake_46 rfl (Nat.le_of_ble_eq_true rfl) rfl ?_
        refine jd_ocmp_ne (tgt := 56) dX1_wake_49 (by decide) (fun j hj => hpb k (by omega) j (by rw [wk_get] at hj; exact hj)) (by omega) (fun z10 => ?_) (fun z11 => ?_)
        · refine jd_aload_n dX1_wake_56 rfl ?_
          refine jd_getN in_X11 (((w_part hw2)) k (show k < nP κ by omega)) 3 q908 dX1_wake_57 rfl (Nat.le_of_ble_eq_true rfl) rfl ?_
          refine jd_putN (fs' := [_, _, _, _, _, _, _]) in_X11 tyX11_ok nmX11 (((w_part hw2)) k (show k < nP κ by omega)) 3 q908 dX1_wake_60 rfl (Nat.le_of_ble_eq_true rfl) rfl rfl rfl (Nat.le_of_ble_eq_true rfl) rfl ?_
          refine jd_updG (fun h12 hs12 ho12 => ?_)
          have hw12 := wu_pHead hw2 (k := k) (show k < nP κ by omega) (v := pHead (k_wk (ll_sn (k_lie κ s) 3 s 2) s k) k) hs12 ho12
          refine jd_iincN (n := 1) (ls' := [_, _, _, _]) dX1_wake_63 rfl (Nat.le_of_ble_eq_true rfl) rfl rfl ?_
          refine jd_goto (tgt := 13) dX1_wake_66 (by decide) ?_
          have hw3 : WC G β (k_wk (ll_sn (k_lie κ s) 3 s 2) s (k + 1)) h12 := by rw [← wk_n z10]; exact hw12
          refine jd_lsub [some (.ref (β 0 0)), some (.ref (β 5 s)), some (.int (nI (k + 1))), none] ⟨rfl, rfl, rfl, trivial⟩ ?_
          exact ih13 (k + 1) (by omega) h12 hw3 (fun j hj => ((ho12 j (ll_nek (by decide) hj)).trans (hf2 j hj)))
        · refine jd_iconst (v := (-1)) dX1_wake_52 (by decide) ?_
          refine jd_goto (tgt := 60) dX1_wake_53 (by decide) ?_
          refine jd_putN (fs' := [_, _, _, _, _, _, _]) in_X11 tyX11_ok nmX11 (((w_part hw2)) k (show k < nP κ by omega)) 3 q908 dX1_wake_60 rfl (Nat.le_of_ble_eq_true rfl) rfl rfl rfl (Nat.le_of_ble_eq_true rfl) rfl ?_
          refine jd_updG (fun h13 hs13 ho13 => ?_)
          have hw13 := wu_pHead hw2 (k := k) (show k < nP κ by omega) (v := none) hs13 ho13
          refine jd_iincN (n := 1) (ls' := [_, _, _, _]) dX1_wake_63 rfl (Nat.le_of_ble_eq_true rfl) rfl rfl ?_
          refine jd_goto (tgt := 13) dX1_wake_66 (by decide) ?_
          have hw3 : WC G β (k_wk (ll_sn (k_lie κ s) 3 s 2) s (k + 1)) h13 := by rw [← wk_y z11]; exact hw13
          refine jd_lsub [some (.ref (β 0 0)), some (.ref (β 5 s)), some (.int (nI (k + 1))), none] ⟨rfl, rfl, rfl, trivial⟩ ?_
          exact ih13 (k + 1) (by omega) h13 hw3 (fun j hj => ((ho13 j (ll_nek (by decide) hj)).trans (hf2 j hj)))
  refine jd_lsub [some (.ref (β 0 0)), some (.ref (β 5 s)), some (.int (nI 0)), none] ⟨rfl, rfl, rfl, trivial⟩ ?_
  exact lp13_3 (nP κ) 0 (by omega) h2 (by rw [wk0]; exact hw2) (fun j hj => ((ho2 j (ll_nek (by decide) hj)).trans (hf0_ j hj)))

set_option maxRecDepth 20000 in
set_option maxHeartbeats 2000000 in
theorem ct_X1_cross {G : jd_G} {β : ll_B} {κ : ll_K} {h : jd_H} (hw : WC G β κ h) (hI : ll_I κ) (s g : Nat) (D : Int32) (hs : s < nS κ) (hg : g < nG κ) (hr : ¬ sRest κ s = 1) : jd_Ct G mX1_cross 13 (48) (1920) [.ref (β 0 0), .ref (β 5 s), .ref (β 2 g), .int (D)] h (jd_ec G β s (k_cross κ s g D) h (some (.int (caughtN κ s g D)))) jd_no := by
  obtain ⟨⟨hG8, hS12, hP24, hH40, hN99, hH24⟩, hIg, hIs, hIp, hIh, hIl, hIq⟩ := id hI
  obtain ⟨mcL, hlL⟩ := w_lands hw
  obtain ⟨mcG, hlG⟩ := w_gates hw
  obtain ⟨mcS, hlS⟩ := w_sleepers hw
  obtain ⟨mcP, hlP⟩ := w_parts hw
  obtain ⟨mcH, hlH⟩ := w_hidings hw
  have hs1 := (hIs s hs).1
  refine jd_ct (ls := [some (.ref (β 0 0)), some (.ref (β 5 s)), some (.ref (β 2 g)), some (.int (D)), none, none, none, none]) rfl rfl (by decide) (Nat.le_of_ble_eq_true rfl) rfl ?_
  refine jd_aload_n dX1_cross_0 rfl ?_
  refine jd_aload_n dX1_cross_1 rfl ?_
  refine jd_getN in_X9 (((w_sleeper hw)) s (show s < nS κ by omega)) 2 q854 dX1_cross_2 rfl (Nat.le_of_ble_eq_true rfl) rfl ?_
  refine jd_pV (As := [.int (nI ((sLand κ s)))]) (rest := []) (ct_acr hw hI (g := g) (l := (sLand κ s)) (by omega) (by omega)) (jd_rv (((w_gate hw)) g (show g < nG κ by omega)) 3 rfl rfl) rfl q513 q514 q515 q103 q516 nX7_across dX1_cross_5 rfl rfl rfl (Nat.le_of_ble_eq_true rfl) ⟨(Nat.le_of_ble_eq_true rfl), (Nat.le_of_ble_eq_true rfl)⟩ ?_
  have hto : acrossN κ g (sLand κ s) < 6 := across_lt hI (g := g) (l := sLand κ s) hg
  refine jd_istore (ls' := [_, _, _, _, _, _, _, _]) dX1_cross_8 (Nat.le_of_ble_eq_true rfl) rfl rfl ?_
  refine jd_aload_n dX1_cross_10 rfl ?_
  refine jd_aload_n dX1_cross_11 rfl ?_
  refine jd_getN in_X9 (((w_sleeper hw)) s (show s < nS κ by omega)) 0 q849 dX1_cross_12 rfl (Nat.le_of_ble_eq_true rfl) rfl ?_
  refine jd_pV (As := [.int (nI s)]) (rest := []) (ct_X1_headOf hw hI (s) (by omega)) (jd_rv ((w_this hw)) 0 rfl rfl) rfl q373 q375 qs5 q80 q376 nX1_headOf dX1_cross_15 rfl rfl rfl (Nat.le_of_ble_eq_true rfl) ⟨(Nat.le_of_ble_eq_true rfl), (Nat.le_of_ble_eq_true rfl)⟩ ?_
  refine jd_iload_n dX1_cross_18 rfl ?_
  refine jd_iconst (v := (-1)) dX1_cross_19 (by decide) ?_
  refine jd_ixor dX1_cross_20 ?_
  refine jd_iand dX1_cross_21 ?_
  refine jd_istore (ls' := [_, _, _, _, _, _, _, _]) dX1_cross_22 (Nat.le_of_ble_eq_true rfl) rfl rfl ?_
  refine jd_aload_n dX1_cross_24 rfl ?_
  refine jd_pV (As := []) (rest := []) (ct_X7_isDozing (((w_gate hw)) g (show g < nG κ by omega))) (jd_rv (((w_gate hw)) g (show g < nG κ by omega)) 3 rfl rfl) rfl q461 q462 q463 q103 q464 nX7_isDozing dX1_cross_25 rfl rfl rfl (Nat.le_of_ble_eq_true rfl) ⟨(Nat.le_of_ble_eq_true rfl), (Nat.le_of_ble_eq_true rfl)⟩ ?_
  refine jd_bif_ne (tgt := 51) dX1_cross_28 (by decide) (fun z1 => ?_) (fun z2 => ?_)
  · refine jd_iconst (v := 0) dX1_cross_51 (by decide) ?_
    refine jd_istore (ls' := [_, _, _, _, _, _, _, _]) dX1_cross_52 (Nat.le_of_ble_eq_true rfl) rfl rfl ?_
    refine jd_aload_n dX1_cross_54 rfl ?_
    refine jd_aload_n dX1_cross_55 rfl ?_
    refine jd_iload dX1_cross_56 rfl ?_
    refine jd_iload dX1_cross_58 rfl ?_
    refine jd_iload dX1_cross_60 rfl ?_
    refine jd_callV (As := [.ref (β 5 s), .int (((headOf κ s) &&& (D ^^^ (-1)))), .int (nI ((acrossN κ g ((sLand κ s))))), .int (0)]) (rest := []) (ct_X1_search hw hI (s) (((headOf κ s) &&& (D ^^^ (-1)))) ((acrossN κ g ((sLand κ s)))) False (show s < nS κ by omega) (show (acrossN κ g ((sLand κ s))) < 6 by omega)) (jd_rv ((w_this hw)) 0 rfl rfl) rfl q1045 q1047 qs41 q80 q1048 nX1_search dX1_cross_62 rfl rfl rfl (Nat.le_of_ble_eq_true rfl) ⟨(Nat.le_of_ble_eq_true rfl), (Nat.le_of_ble_eq_true rfl), by omega, by omega⟩ (fun rv2 hn2 hq2 => ?_) jd_nox
    obtain ⟨rfl, ⟨b2, hw2_⟩, hf2_⟩ := hq2
    refine jd_istore (ls' := [_, _, _, _, _, _, _, _]) dX1_cross_65 (Nat.le_of_ble_eq_true rfl) rfl rfl ?_
    refine jd_aload_n dX1_cross_67 rfl ?_
    refine jd_aload_n dX1_cross_68 rfl ?_
    refine jd_iload_n dX1_cross_69 rfl ?_
    refine jd_iload dX1_cross_70 rfl ?_
    have ff4 := w_this hw2_
    refine jd_callV (As := [.ref (β 5 s), .int (D), .int (nI ((acrossN κ g ((sLand κ s)))))]) (rest := []) (ct_X1_declare hw2_ (I_seaH hI hs hr hto) (s) (D) ((acrossN κ g ((sLand κ s)))) (show s < nS κ by omega) (show (acrossN κ g ((sLand κ s))) < 6 by omega)) (jd_rv ff4 0 rfl rfl) rfl q1077 q1079 qs43 q80 q1080 nX1_declare dX1_cross_72 rfl rfl rfl (Nat.le_of_ble_eq_true rfl) ⟨(Nat.le_of_ble_eq_true rfl), (Nat.le_of_ble_eq_true rfl), by omega, by omega⟩ (fun rv4 hn4 hq4 => ?_) jd_nox
    obtain ⟨rfl, hw4_, hf4_⟩ := hq4
    refine jd_aload_n dX1_cross_75 rfl ?_
    refine jd_iload dX1_cross_76 rfl ?_
    have ff6 := w_sleeper hw4_
    refine jd_putN (fs' := [_, _, _, _, _, _, _, _]) in_X9 tyX9_ok nmX9 (ff6 s (show s < nS κ by omega)) 2 q854 dX1_cross_78 rfl (Nat.le_of_ble_eq_true rfl) rfl rfl rfl (Nat.le_of_ble_eq_true rfl) rfl ?_
    refine jd_updG (fun h7 hs7 ho7 => ?_)
    have hw7 := wu_sLand hw4_ (k := s) (show s < nS κ by omega) (v := (acrossN κ g ((sLand κ s)))) hs7 ho7
    refine jd_aload_n dX1_cross_81 rfl ?_
    refine jd_pS (As := []) (rest := [.ref (β 5 s)]) ct_J17_empty rfl q1087 q844 q108 q845 nJ17_empty dX1_cross_82 rfl rfl (Nat.le_of_ble_eq_true rfl) ⟨(Nat.le_of_ble_eq_true rfl), (Nat.le_of_ble_eq_true rfl)⟩ ?_
    have ff8 := w_sleeper hw7
    refine jd_putN (fs' := [_, _, _, _, _, _, _, _]) in_X9 tyX9_ok nmX9 (ff8 s (show s < nS κ by omega)) 7 q864 dX1_cross_85 rfl (Nat.le_of_ble_eq_true rfl) rfl rfl rfl (Nat.le_of_ble_eq_true rfl) rfl ?_
    refine jd_updG (fun h9 hs9 ho9 => ?_)
    have hw9 := wu_sPassN hw7 (k := s) (show s < nS κ by omega) hs9 (fun j _ h7 => ho9 j h7) (fun a y e => (ho9 _ (fun z => by cases z)).trans e)
    refine jd_iload dX1_cross_88 rfl ?_
    exact jd_iret dX1_cross_90 rfl ⟨congrArg (fun x => some (Value.int x)) (cnt_congr _ (fun p => ⟨fun w => absurd w.2 id, fun w => absurd w.2.1 z1⟩)), ⟨b2, by rw [k_cross, if_neg z1]; exact hw9⟩, (fun j hj => ((ho9 j (ll_nek (by decide) hj)).trans ((ho7 j (ll_nek (by decide) hj)).trans ((hf4_ j hj).trans (hf2_ j hj)))))⟩
  · refine jd_aload_n dX1_cross_31 rfl ?_
    refine jd_get in_X1 ((w_this hw)) 5 q288 dX1_cross_32 rfl (Nat.le_of_ble_eq_true rfl) rfl ?_
    refine jd_bipush (v := 10) dX1_cross_35 (by decide) ?_
    refine jd_callV (As := [.int (10)]) (rest := []) (ct_X2_draw hw) (jd_rv ((w_row hw)) 1 rfl rfl) rfl q1041 q1042 q1043 q84 q1044 nX2_draw dX1_cross_37 rfl rfl rfl (Nat.le_of_ble_eq_true rfl) ⟨(Nat.le_of_ble_eq_true rfl), (Nat.le_of_ble_eq_true rfl), by omega, by omega⟩ (fun rv9 hn9 hq9 => ?_) jd_nox
    obtain ⟨rfl, hw9_, hf9_⟩ := hq9
    refine jd_aload_n dX1_cross_40 rfl ?_
    refine jd_getN in_X7 (((w_gate hw9_)) g (show g < nG κ by omega)) 4 q786 dX1_cross_41 rfl (Nat.le_of_ble_eq_true rfl) rfl ?_
    refine jd_icmp_ge (tgt := 51) dX1_cross_44 (by decide) (fun z11 => ?_) (fun z12 => ?_)
    · refine jd_iconst (v := 0) dX1_cross_51 (by decide) ?_
      refine jd_istore (ls' := [_, _, _, _, _, _, _, _]) dX1_cross_52 (Nat.le_of_ble_eq_true rfl) rfl rfl ?_
      refine jd_aload_n dX1_cross_54 rfl ?_
      refine jd_aload_n dX1_cross_55 rfl ?_
      refine jd_iload dX1_cross_56 rfl ?_
      refine jd_iload dX1_cross_58 rfl ?_
      refine jd_iload dX1_cross_60 rfl ?_
      refine jd_callV (As := [.ref (β 5 s), .int (((headOf κ s) &&& (D ^^^ (-1)))), .int (nI ((acrossN κ g ((sLand κ s))))), .int (0)]) (rest := []) (ct_X1_search hw9_ (I_draw hI) (s) (((headOf κ s) &&& (D ^^^ (-1)))) ((acrossN κ g ((sLand κ s)))) False (show s < nS κ by omega) (show (acrossN κ g ((sLand κ s))) < 6 by omega)) (jd_rv ((w_this hw9_)) 0 rfl rfl) rfl q1045 q1047 qs41 q80 q1048 nX1_search dX1_cross_62 rfl rfl rfl (Nat.le_of_ble_eq_true rfl) ⟨(Nat.le_of_ble_eq_true rfl), (Nat.le_of_ble_eq_true rfl), by omega, by omega⟩ (fun rv12 hn12 hq12 => ?_) jd_nox
      obtain ⟨rfl, ⟨b12, hw12_⟩, hf12_⟩ := hq12
      refine jd_istore (ls' := [_, _, _, _, _, _, _, _]) dX1_cross_65 (Nat.le_of_ble_eq_true rfl) rfl rfl ?_
      refine jd_aload_n dX1_cross_67 rfl ?_
      refine jd_aload_n dX1_cross_68 rfl ?_
      refine jd_iload_n dX1_cross_69 rfl ?_
      refine jd_iload dX1_cross_70 rfl ?_
      have ff14 := w_this hw12_
      refine jd_callV (As := [.ref (β 5 s), .int (D), .int (nI ((acrossN κ g ((sLand κ s)))))]) (rest := []) (ct_X1_declare hw12_ (I_seaH (I_draw hI) hs hr hto) (s) (D) ((acrossN κ g ((sLand κ s)))) (show s < nS κ by omega) (show (acrossN κ g ((sLand κ s))) < 6 by omega)) (jd_rv ff14 0 rfl rfl) rfl q1077 q1079 qs43 q80 q1080 nX1_declare dX1_cross_72 rfl rfl rfl (Nat.le_of_ble_eq_true rfl) ⟨(Nat.le_of_ble_eq_true rfl), (Nat.le_of_ble_eq_true rfl), by omega, by omega⟩ (fun rv14 hn14 hq14 => ?_) jd_nox
      obtain ⟨rfl, hw14_, hf14_⟩ := hq14
      refine jd_aload_n dX1_cross_75 rfl ?_
      refine jd_iload dX1_cross_76 rfl ?_
      have ff16 := w_sleeper hw14_
      refine jd_putN (fs' := [_, _, _, _, _, _, _, _]) in_X9 tyX9_ok nmX9 (ff16 s (show s < nS κ by omega)) 2 q854 dX1_cross_78 rfl (Nat.le_of_ble_eq_true rfl) rfl rfl rfl (Nat.le_of_ble_eq_true rfl) rfl ?_
      refine jd_updG (fun h17 hs17 ho17 => ?_)
      have hw17 := wu_sLand hw14_ (k := s) (show s < nS κ by omega) (v := (acrossN κ g ((sLand κ s)))) hs17 ho17
      refine jd_aload_n dX1_cross_81 rfl ?_
      refine jd_pS (As := []) (rest := [.ref (β 5 s)]) ct_J17_empty rfl q1087 q844 q108 q845 nJ17_empty dX1_cross_82 rfl rfl (Nat.le_of_ble_eq_true rfl) ⟨(Nat.le_of_ble_eq_true rfl), (Nat.le_of_ble_eq_true rfl)⟩ ?_
      have ff18 := w_sleeper hw17
      refine jd_putN (fs' := [_, _, _, _, _, _, _, _]) in_X9 tyX9_ok nmX9 (ff18 s (show s < nS κ by omega)) 7 q864 dX1_cross_85 rfl (Nat.le_of_ble_eq_true rfl) rfl rfl rfl (Nat.le_of_ble_eq_true rfl) rfl ?_
      refine jd_updG (fun h19 hs19 ho19 => ?_)
      have hw19 := wu_sPassN hw17 (k := s) (show s < nS κ by omega) hs19 (fun j _ h7 => ho19 j h7) (fun a y e => (ho19 _ (fun z => by cases z)).trans e)
      refine jd_iload dX1_cross_88 rfl ?_
      exact jd_iret dX1_cross_90 rfl ⟨congrArg (fun x => some (Value.int x)) (cnt_congr _ (fun p => ⟨fun w => absurd w.2 id, fun w => absurd w.2.2 (Int32.not_lt.mpr z11)⟩)), ⟨b12, by rw [k_cross, if_pos (Decidable.not_not.mp z2), if_neg (show ¬ jd_rem (rNext κ) 10 < gOdds κ g from Int32.not_lt.mpr z11)]; exact hw19⟩, (fun j hj => ((ho19 j (ll_nek (by decide) hj)).trans ((ho17 j (ll_nek (by decide) hj)).trans ((hf14_ j hj).trans ((hf12_ j hj).trans (hf9_ j hj))))))⟩
    · refine jd_iconst (v := 1) dX1_cross_47 (by decide) ?_
      refine jd_goto (tgt := 52) dX1_cross_48 (by decide) ?_
      refine jd_istore (ls' := [_, _, _, _, _, _, _, _]) dX1_cross_52 (Nat.le_of_ble_eq_true rfl) rfl rfl ?_
      refine jd_aload_n dX1_cross_54 rfl ?_
      refine jd_aload_n dX1_cross_55 rfl ?_
      refine jd_iload dX1_cross_56 rfl ?_
      refine jd_iload dX1_cross_58 rfl ?_
      refine jd_iload dX1_cross_60 rfl ?_
      refine jd_callV (As := [.ref (β 5 s), .int (((headOf κ s) &&& (D ^^^ (-1)))), .int (nI ((acrossN κ g ((sLand κ s))))), .int (1)]) (rest := []) (ct_X1_search hw9_ (I_draw hI) (s) (((headOf κ s) &&& (D ^^^ (-1)))) ((acrossN κ g ((sLand κ s)))) True (show s < nS κ by omega) (show (acrossN κ g ((sLand κ s))) < 6 by omega)) (jd_rv ((w_this hw9_)) 0 rfl rfl) rfl q1045 q1047 qs41 q80 q1048 nX1_search dX1_cross_62 rfl rfl rfl (Nat.le_of_ble_eq_true rfl) ⟨(Nat.le_of_ble_eq_true rfl), (Nat.le_of_ble_eq_true rfl), by omega, by omega⟩ (fun rv19 hn19 hq19 => ?_) jd_nox
      obtain ⟨rfl, ⟨b19, hw19_⟩, hf19_⟩ := hq19
      refine jd_istore (ls' := [_, _, _, _, _, _, _, _]) dX1_cross_65 (Nat.le_of_ble_eq_true rfl) rfl rfl ?_
      refine jd_aload_n dX1_cross_67 rfl ?_
      refine jd_aload_n dX1_cross_68 rfl ?_
      refine jd_iload_n dX1_cross_69 rfl ?_
      refine jd_iload dX1_cross_70 rfl ?_
      have ff21 := w_this hw19_
      refine jd_callV (As := [.ref (β 5 s), .int (D), .int (nI ((acrossN κ g ((sLand κ s)))))]) (rest := []) (ct_X1_declare hw19_ (I_seaH (I_draw hI) hs hr hto) (s) (D) ((acrossN κ g ((sLand κ s)))) (show s < nS κ by omega) (show (acrossN κ g ((sLand κ s))) < 6 by omega)) (jd_rv ff21 0 rfl rfl) rfl q1077 q1079 qs43 q80 q1080 nX1_declare dX1_cross_72 rfl rfl rfl (Nat.le_of_ble_eq_true rfl) ⟨(Nat.le_of_ble_eq_true rfl), (Nat.le_of_ble_eq_true rfl), by omega, by omega⟩ (fun rv21 hn21 hq21 => ?_) jd_nox
      obtain ⟨rfl, hw21_, hf21_⟩ := hq21
      refine jd_aload_n dX1_cross_75 rfl ?_
      refine jd_iload dX1_cross_76 rfl ?_
      have ff23 := w_sleeper hw21_
      refine jd_putN (fs' := [_, _, _, _, _, _, _, _]) in_X9 tyX9_ok nmX9 (ff23 s (show s < nS κ by omega)) 2 q854 dX1_cross_78 rfl (Nat.le_of_ble_eq_true rfl) rfl rfl rfl (Nat.le_of_ble_eq_true rfl) rfl ?_
      refine jd_updG (fun h24 hs24 ho24 => ?_)
      have hw24 := wu_sLand hw21_ (k := s) (show s < nS κ by omega) (v := (acrossN κ g ((sLand κ s)))) hs24 ho24
      refine jd_aload_n dX1_cross_81 rfl ?_
      refine jd_pS (As := []) (rest := [.ref (β 5 s)]) ct_J17_empty rfl q1087 q844 q108 q845 nJ17_empty dX1_cross_82 rfl rfl (Nat.le_of_ble_eq_true rfl) ⟨(Nat.le_of_ble_eq_true rfl), (Nat.le_of_ble_eq_true rfl)⟩ ?_
      have ff25 := w_sleeper hw24
      refine jd_putN (fs' := [_, _, _, _, _, _, _, _]) in_X9 tyX9_ok nmX9 (ff25 s (show s < nS κ by omega)) 7 q864 dX1_cross_85 rfl (Nat.le_of_ble_eq_true rfl) rfl rfl rfl (Nat.le_of_ble_eq_true rfl) rfl ?_
      refine jd_updG (fun h26 hs26 ho26 => ?_)
      have hw26 := wu_sPassN hw24 (k := s) (show s < nS κ by omega) hs26 (fun j _ h7 => ho26 j h7) (fun a y e => (ho26 _ (fun z => by cases z)).trans e)
      refine jd_iload dX1_cross_88 rfl ?_
      exact jd_iret dX1_cross_90 rfl ⟨congrArg (fun x => some (Value.int x)) (cnt_congr _ (fun p => ⟨fun w => ⟨w.1, (Decidable.not_not.mp z2), Int32.not_le.mp z12⟩, fun w => ⟨w.1, trivial⟩⟩)), ⟨b19, by rw [k_cross, if_pos (Decidable.not_not.mp z2), if_pos (show jd_rem (rNext κ) 10 < gOdds κ g from Int32.not_le.mp z12)]; exact hw26⟩, (fun j hj => ((ho26 j (ll_nek (by decide) hj)).trans ((ho24 j (ll_nek (by decide) hj)).trans ((hf21_ j hj).trans ((hf19_ j hj).trans (hf9_ j hj))))))⟩

set_option maxRecDepth 20000 in
set_option maxHeartbeats 2000000 in
theorem ct_X1_wear {G : jd_G} {β : ll_B} {κ : ll_K} {h : jd_H} (hw : WC G β κ h) (hI : ll_I κ) (g : Nat) (hg : g < nG κ) : jd_Ct G mX1_wear 11 (0) (0) [.ref (β 0 0), .ref (β 2 g)] h (jd_ef G β (k_wearA κ g) h none) jd_no := by
  obtain ⟨⟨hG8, hS12, hP24, hH40, hN99, hH24⟩, hIg, hIs, hIp, hIh, hIl, hIq⟩ := id hI
  obtain ⟨mcL, hlL⟩ := w_lands hw
  obtain ⟨mcG, hlG⟩ := w_gates hw
  obtain ⟨mcS, hlS⟩ := w_sleepers hw
  obtain ⟨mcP, hlP⟩ := w_parts hw
  obtain ⟨mcH, hlH⟩ := w_hidings hw
  have hIg2 := hIg g hg
  have hql := hIg2.2.2.1
  have hnd := hIg2.2.2.2.1
  refine jd_ct (ls := [some (.ref (β 0 0)), some (.ref (β 2 g)), none, none]) rfl rfl (by decide) (Nat.le_of_ble_eq_true rfl) rfl ?_
  refine jd_iconst (v := 0) dX1_wear_0 (by decide) ?_
  refine jd_istore_n (ls' := [_, _, _, _]) dX1_wear_1 (Nat.le_of_ble_eq_true rfl) rfl rfl ?_
  have lp2_1 : ∀ (j : Nat) (i : Nat) (hi0 : i + j = (gQue κ g).length) (hh : jd_H) (hw2 : WC G β (k_wearC κ g i) hh) (hf2 : ∀ j : jd_Id, 20 ≤ j.1 → hh j = h j), jd_W G mX1_wear 11 (0) (0) 2 [some (.ref (β 0 0)), some (.ref (β 2 g)), some (.int (nI ((wk (wkP κ) (gQue κ g) i)))), none] [] hh (jd_ef G β (k_wearA κ g) h none) jd_no := by
    intro j
    induction j with
    | zero =>
      intro i hi0 hh hw2 hf2
      obtain rfl : i = (gQue κ g).length := by omega
      have hlen : (gQue (k_wearC κ g ((gQue κ g).length)) g).length = wk (wkP κ) (gQue κ g) ((gQue κ g).length) + ((gQue κ g).length - (gQue κ g).length) := by rw [wearC_q, wq_len]
      have hwk := wk_le (P := wkP κ) (l := gQue κ g) (i := (gQue κ g).length)
      refine jd_iload_n dX1_wear_2 rfl ?_
      refine jd_aload_n dX1_wear_3 rfl ?_
      refine jd_getN in_X7 (((w_gate hw2)) g (show g < nG κ by omega)) 7 q792 dX1_wear_4 rfl (Nat.le_of_ble_eq_true rfl) rfl ?_
      obtain ⟨mcq2, hqu2⟩ := w_queue hw2 g (show g < nG κ by omega)
      have hql2 := (hIg g (show g < nG κ by omega)).2.2.1
      refine jd_pF (n := 0) (As := []) (rest := [.int (nI ((wk (wkP κ) (gQue κ g) ((gQue κ g).length))))]) (ct_J2_size hqu2 (by omega)) (jd_rv hqu2 15 rfl rfl) (ci := 15) rfl (List.mem_of_getElem? (i := 2) rfl) rfl q339 q342 q344 q83 q346 q341 q345 q343 q207 ⟨by decide, by decide, by decide +kernel⟩ dX1_wear_7 rfl rfl (Nat.le_of_ble_eq_true rfl) ⟨(Nat.le_of_ble_eq_true rfl), (Nat.le_of_ble_eq_true rfl)⟩ ?_
      refine jd_ncmp_ge (a := (wk (wkP κ) (gQue κ g) ((gQue κ g).length))) (b := (gQue (k_wearC κ g ((gQue κ g).length)) g).length) (tgt := 71) dX1_wear_12 (by decide) (by omega) (by omega) (fun z3 => ?_) (fun z4 => ?_)
      · exact jd_vret dX1_wear_71 rfl ⟨rfl, by rw [← wearCn]; exact hw2, hf2⟩
      · omega
    | succ j ih2 =>
      intro i hi0 hh hw2 hf2
      have hlen : (gQue (k_wearC κ g (i)) g).length = wk (wkP κ) (gQue κ g) (i) + ((gQue κ g).length - i) := by rw [wearC_q, wq_len]
      have hwk := wk_le (P := wkP κ) (l := gQue κ g) (i := i)
      refine jd_iload_n dX1_wear_2 rfl ?_
      refine jd_aload_n dX1_wear_3 rfl ?_
      refine jd_getN in_X7 (((w_gate hw2)) g (show g < nG κ by omega)) 7 q792 dX1_wear_4 rfl (Nat.le_of_ble_eq_true rfl) rfl ?_
      obtain ⟨mcq5, hqu5⟩ := w_queue hw2 g (show g < nG κ by omega)
      have hql5 := (hIg g (show g < nG κ by omega)).2.2.1
      refine jd_pF (n := 0) (As := []) (rest := [.int (nI ((wk (wkP κ) (gQue κ g) i)))]) (ct_J2_size hqu5 (by omega)) (jd_rv hqu5 15 rfl rfl) (ci := 15) rfl (List.mem_of_getElem? (i := 2) rfl) rfl q339 q342 q344 q83 q346 q341 q345 q343 q207 ⟨by decide, by decide, by decide +kernel⟩ dX1_wear_7 rfl rfl (Nat.le_of_ble_eq_true rfl) ⟨(Nat.le_of_ble_eq_true rfl), (Nat.le_of_ble_eq_true rfl)⟩ ?_
      refine jd_ncmp_ge (a := (wk (wkP κ) (gQue κ g) i)) (b := (gQue (k_wearC κ g i) g).length) (tgt := 71) dX1_wear_12 (by decide) (by omega) (by omega) (fun z6 => ?_) (fun z7 => ?_)
      · omega
      · refine jd_aload_n dX1_wear_15 rfl ?_
        refine jd_getN in_X7 (((w_gate hw2)) g (show g < nG κ by omega)) 7 q792 dX1_wear_16 rfl (Nat.le_of_ble_eq_true rfl) rfl ?_
        refine jd_iload_n dX1_wear_19 rfl ?_
        refine jd_pF (n := 1) (As := [.int (nI ((wk (wkP κ) (gQue κ g) i)))]) (rest := []) (ct_J2_get hqu5 (by omega) (k := (wk (wkP κ) (gQue κ g) i)) (show (wk (wkP κ) (gQue κ g) i) < (gQue (k_wearC κ g i) g).length by omega)) (jd_rv hqu5 15 rfl rfl) (ci := 15) rfl (List.mem_of_getElem? (i := 1) rfl) rfl q320 q323 q325 q83 q327 q322 q326 q324 q207 ⟨by decide, by decide, by decide +kernel⟩ dX1_wear_20 rfl rfl (Nat.le_of_ble_eq_true rfl) ⟨(Nat.le_of_ble_eq_true rfl), (Nat.le_of_ble_eq_true rfl)⟩ ?_
        have hi : i < (gQue κ g).length := by omega
        have hq2 := q_lt hI hg (j := i) hi
        have hqe : qAt (k_wearC κ g i) g (wk (wkP κ) (gQue κ g) i) = qAt κ g i := by show (gQue (k_wearC κ g i) g).getD _ 12 = _; rw [wearC_q]; exact wq_get hi
        refine jd_top (w := .ref (β 5 (qAt κ g i))) (congrArg (fun x => Value.ref (β 5 x)) hqe) ?_
        refine jd_castS (jd_rv (((w_sleeper hw2)) (qAt κ g i) (show qAt κ g i < nS κ by omega)) 4 rfl rfl) (ci := 4) rfl q352 dX1_wear_25 ?_
        refine jd_astore_n (ls' := [_, _, _, _]) dX1_wear_28 (Nat.le_of_ble_eq_true rfl) rfl rfl ?_
        refine jd_aload_n dX1_wear_29 rfl ?_
        refine jd_dup dX1_wear_30 rfl ?_
        refine jd_getN in_X9 (((w_sleeper hw2)) (qAt κ g i) (show qAt κ g i < nS κ by omega)) 3 q856 dX1_wear_31 rfl (Nat.le_of_ble_eq_true rfl) rfl ?_
        refine jd_iconst (v := 1) dX1_wear_34 (by decide) ?_
        refine jd_isub dX1_wear_35 ?_
        refine jd_putN (fs' := [_, _, _, _, _, _, _, _]) in_X9 tyX9_ok nmX9 (((w_sleeper hw2)) (qAt κ g i) (show qAt κ g i < nS κ by omega)) 3 q856 dX1_wear_36 rfl (Nat.le_of_ble_eq_true rfl) rfl rfl rfl (Nat.le_of_ble_eq_true rfl) rfl ?_
        refine jd_updG (fun h8 hs8 ho8 => ?_)
        have hw8 := wu_sPat hw2 (k := qAt κ g i) (show qAt κ g i < nS κ by omega) (v := ((sPat (k_wearC κ g i) (qAt κ g i)) - 1)) hs8 ho8
        refine jd_aload_n dX1_wear_39 rfl ?_
        refine jd_getN in_X9 (((w_sleeper hw8)) (qAt κ g i) (show qAt κ g i < nS κ by omega)) 3 q856 dX1_wear_40 rfl (Nat.le_of_ble_eq_true rfl) rfl ?_
        refine jd_if_ne (tgt := 65) dX1_wear_43 (by decide) (fun z9 => ?_) (fun z10 => ?_)
        · refine jd_iincN (n := 1) (ls' := [_, _, _, _]) dX1_wear_65 rfl (Nat.le_of_ble_eq_true rfl) rfl rfl ?_
          refine jd_goto (tgt := 2) dX1_wear_68 (by decide) ?_
          have h1 := fun w => z9 ((wearC_z hnd hi).mpr w)
          have hw3 : WC G β (k_wearC κ g (i + 1)) h8 := by rw [← wearC_y hnd hi h1]; exact hw8
          refine jd_lsub [some (.ref (β 0 0)), some (.ref (β 2 g)), some (.int (nI ((wk (wkP κ) (gQue κ g) (i + 1))))), none] ⟨rfl, rfl, (congrArg (fun x => some (Value.int (nI x))) (wq_y (P := wkP κ) (l := gQue κ g) hi (decide_eq_true h1)).2.symm), trivial⟩ ?_
          exact ih2 (i + 1) (by omega) h8 hw3 (fun j hj => ((ho8 j (ll_nek (by decide) hj)).trans (hf2 j hj)))
        · have hqm : ∀ i2, i2 < (gQue (k_wearC κ g i) g).length → qAt (k_wearC κ g i) g i2 < nS κ := fun i2 hi2 => wearC_m hI hg hi2
          refine jd_aload_n dX1_wear_46 rfl ?_
          refine jd_getN in_X7 (((w_gate hw8)) g (show g < nG κ by omega)) 7 q792 dX1_wear_47 rfl (Nat.le_of_ble_eq_true rfl) rfl ?_
          refine jd_iload_n dX1_wear_50 rfl ?_
          obtain ⟨mcq11, hqu11⟩ := w_queue hw8 g (show g < nG κ by omega)
          have hql11 := (hIg g (show g < nG κ by omega)).2.2.1
          refine jd_callF (n := 1) (As := [.int (nI ((wk (wkP κ) (gQue κ g) i)))]) (rest := []) (ct_J2_remove hqu11 (show (gQue (k_wearC κ g i) g).length ≤ 900 by omega) (k := (wk (wkP κ) (gQue κ g) i)) (show (wk (wkP κ) (gQue κ g) i) < (gQue (k_wearC κ g i) g).length by omega) (Cn := "Lullabygate$Sleeper") q2019 (fun i hi => Or.inl ⟨_, _, 4, _, w_sleeper hw8 _ ((fun i2 hi2 => hqm i2 hi2) i hi), rfl, rfl, rfl⟩)) (jd_rv hqu11 15 rfl rfl) (ci := 15) rfl (List.mem_of_getElem? (i := 4) rfl) rfl q1025 q1005 q1007 q83 q1009 q1004 q1008 q1006 q207 ⟨by decide, by decide, by decide +kernel⟩ dX1_wear_51 rfl rfl (Nat.le_of_ble_eq_true rfl) ⟨(Nat.le_of_ble_eq_true rfl), (Nat.le_of_ble_eq_true rfl), by omega, by omega⟩ (fun rv11 hn11 hq11 => ?_) jd_nox
          obtain ⟨rfl, he11⟩ := hq11
          rw [he11]
          refine jd_updG (fun h11 hs11 ho11 => ?_)
          have hw11_ := wu_gQue hw8 (k := g) (show g < nG κ by omega) (er_len (show (wk (wkP κ) (gQue κ g) i) < (gQue (k_wearC κ g i) g).length by omega)) (er_fun (β 5)) hs11 ho11
          refine jd_pop dX1_wear_56 rfl ?_
          refine jd_aload_n dX1_wear_57 rfl ?_
          refine jd_aload_n dX1_wear_58 rfl ?_
          refine jd_callV (As := [.ref (β 5 (qAt κ g i))]) (rest := []) (ct_X1_wake hw11_ (qAt κ g i) (show qAt κ g i < nS κ by omega) (show nP κ ≤ 24 by omega) (show nS κ ≤ 12 by omega) (fun p hp j hj => by have := (hIp p hp).1 j (wearC_hd hj); omega)) (jd_rv ((w_this hw11_)) 0 rfl rfl) rfl q1092 q1094 qs45 q80 q1095 nX1_wake dX1_wear_59 rfl rfl rfl (Nat.le_of_ble_eq_true rfl) ⟨(Nat.le_of_ble_eq_true rfl), (Nat.le_of_ble_eq_true rfl), by omega, by omega⟩ (fun rv12 hn12 hq12 => ?_) jd_nox
          obtain ⟨rfl, hw12_, hf12_⟩ := hq12
          refine jd_goto (tgt := 68) dX1_wear_62 (by decide) ?_
          refine jd_goto (tgt := 2) dX1_wear_68 (by decide) ?_
          have h1 := (wearC_z hnd hi).mp z10
          have hw3 : WC G β (k_wearC κ g (i + 1)) hn12 := by rw [← wearC_d hnd hi h1]; exact hw12_
          refine jd_lsub [some (.ref (β 0 0)), some (.ref (β 2 g)), some (.int (nI ((wk (wkP κ) (gQue κ g) (i + 1))))), none] ⟨rfl, rfl, (congrArg (fun x => some (Value.int (nI x))) (wq_n (P := wkP κ) (l := gQue κ g) hi (decide_eq_false (fun w => w h1))).2.symm), trivial⟩ ?_
          exact ih2 (i + 1) (by omega) hn12 hw3 (fun j hj => ((hf12_ j hj).trans ((ho11 j (ll_nek (by decide) hj)).trans ((ho8 j (ll_nek (by decide) hj)).trans (hf2 j hj)))))
  refine jd_lsub [some (.ref (β 0 0)), some (.ref (β 2 g)), some (.int (nI ((wk (wkP κ) (gQue κ g) 0)))), none] ⟨rfl, rfl, (congrArg (fun x => some (Value.int (nI x))) wk_0), trivial⟩ ?_
  exact lp2_1 ((gQue κ g).length) 0 (by omega) h (by rw [wearC0]; exact hw) (fun _ _ => rfl)
