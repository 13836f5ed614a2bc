/-! the component, ways (printed by mk_c.py) -/
set_option maxRecDepth 20000 in
set_option maxHeartbeats 2000000 in
theorem ct_X1_go {G : jd_G} {h : jd_H} {q a b t : Nat} {W : ll_W} (ha : a < 6) (hb : b < 6) (ht : t < 2 ^ 30) (hW : ll_WB W (t + 1)) : jd_Ct G mX1_go 0 (0) (0) [.ref (q), .int (nI a), .int (nI b), .int (nI t)] (jd_up h (0, q) (q, jd_ia G 6 (aW W))) (jd_vd (jd_up h (0, q) (q, jd_ia G 6 (aW (goW W a b t))))) jd_no := by
  refine jd_ct (ls := [some (.ref (q)), some (.int (nI a)), some (.int (nI b)), some (.int (nI t))]) rfl rfl (by decide) (Nat.le_of_ble_eq_true rfl) rfl ?_
  refine jd_aload_n dX1_go_0 rfl ?_
  refine jd_iload_n dX1_go_1 rfl ?_
  refine jd_iald jd_up_s dX1_go_2 (vp_in_nI (by omega) (by omega)) ?_
  refine jd_top (v := .int ((aW W) (nI (a)).toNatClampNeg)) (w := .int ((oI (W a)))) (by rw [nI_clamp (by omega), aW_at (by omega)]) ?_
  refine jd_iconst (v := (-1)) dX1_go_3 (by decide) ?_
  refine jd_ocmpN_eq (tgt := 27) dX1_go_4 (by decide) (fun j hj => by have := hW _ j hj; omega) (fun z1 => ?_) (fun z2 => ?_)
  · exact jd_vret dX1_go_27 rfl ⟨rfl, by rw [goW_no (fun w => by obtain ⟨⟨u, h1, h2⟩, h3⟩ := w; rw [z1] at h1; cases h1)]⟩
  · obtain ⟨u, hu⟩ := Option.ne_none_iff_exists'.mp z2
    have hu2 := hW a u hu
    refine jd_aload_n dX1_go_7 rfl ?_
    refine jd_iload_n dX1_go_8 rfl ?_
    refine jd_iald jd_up_s dX1_go_9 (vp_in_nI (by omega) (by omega)) ?_
    refine jd_top (v := .int ((aW W) (nI (a)).toNatClampNeg)) (w := .int ((oI (W a)))) (by rw [nI_clamp (by omega), aW_at (by omega)]) ?_
    refine jd_top (w := .int (nI u)) (congrArg Value.int (by rw [hu]; rfl)) ?_
    refine jd_iload_n dX1_go_10 rfl ?_
    refine jd_ncmp_gt (a := u) (b := t) (tgt := 27) dX1_go_11 (by decide) (by omega) (by omega) (fun z3 => ?_) (fun z4 => ?_)
    · exact jd_vret dX1_go_27 rfl ⟨rfl, by rw [goW_no (fun w => by obtain ⟨⟨u2, h1, h2⟩, h3⟩ := w; rw [hu] at h1; cases h1; omega)]⟩
    · refine jd_aload_n dX1_go_14 rfl ?_
      refine jd_iload_n dX1_go_15 rfl ?_
      refine jd_iald jd_up_s dX1_go_16 (vp_in_nI (by omega) (by omega)) ?_
      refine jd_top (v := .int ((aW W) (nI (b)).toNatClampNeg)) (w := .int ((oI (W b)))) (by rw [nI_clamp (by omega), aW_at (by omega)]) ?_
      refine jd_iconst (v := (-1)) dX1_go_17 (by decide) ?_
      refine jd_ocmpN_ne (tgt := 27) dX1_go_18 (by decide) (fun j hj => by have := hW _ j hj; omega) (fun z5 => ?_) (fun z6 => ?_)
      · exact jd_vret dX1_go_27 rfl ⟨rfl, by rw [goW_no (fun w => z5 w.2)]⟩
      · refine jd_aload_n dX1_go_21 rfl ?_
        refine jd_iload_n dX1_go_22 rfl ?_
        refine jd_iload_n dX1_go_23 rfl ?_
        refine jd_iconst (v := 1) dX1_go_24 (by decide) ?_
        refine jd_iaddN (a := t) (b := 1) dX1_go_25 ?_
        refine jd_iast jd_up_s dX1_go_26 (vp_in_nI (by omega) (by omega)) ?_
        refine jd_heq (h' := (jd_up h (0, q) (q, jd_ia G 6 (upd (aW W) b (nI ((t + 1))))))) (by rw [jd_up_up, nI_clamp (by omega)]) ?_
        exact jd_vret dX1_go_27 rfl ⟨rfl, congrArg (fun F => jd_up h (0, q) (q, jd_ia G 6 F)) (aW_go hu (by omega) z6 hb)⟩

set_option maxRecDepth 20000 in
set_option maxHeartbeats 2000000 in
theorem ct_X1_ways {G : jd_G} {β : ll_B} {κ : ll_K} {h : jd_H} (hw : WC G β κ h) (hI : ll_I κ) (f : Nat) (hf : f < 6) : jd_Ct G mX1_ways 3 (1) (6) [.ref (β 0 0), .int (nI f)] h (jd_na G h 6 (aW (wayW κ f 72))) jd_no := by
  obtain ⟨⟨hG8, hS12, hP24, hH40, hN99, hH24⟩, hIg, hIs, hIp, hIh, hIl, hIq⟩ := id hI
  obtain ⟨mcL, hlL⟩ := w_lands hw
  obtain ⟨mcG, hlG⟩ := w_gates hw
  obtain ⟨mcS, hlS⟩ := w_sleepers hw
  obtain ⟨mcP, hlP⟩ := w_parts hw
  obtain ⟨mcH, hlH⟩ := w_hidings hw
  refine jd_ct (ls := [some (.ref (β 0 0)), some (.int (nI f)), none, none, none, none]) rfl rfl (by decide) (Nat.le_of_ble_eq_true rfl) rfl ?_
  refine jd_bipush (v := 6) dX1_ways_0 (by decide) ?_
  refine jd_newa (atype := .int) (ty := .int) (N' := 6) rfl q591 dX1_ways_2 0 rfl (by decide) rfl (nI_pos (n := 6) (by omega)) (nI_clamp (n := 6) (by omega)) (by show _ * 4 ≤ _; omega) (by omega) (by omega) (fun q hq => ?_)
  refine jd_astore_n (ls' := [_, _, _, _, _, _]) dX1_ways_4 (Nat.le_of_ble_eq_true rfl) rfl rfl ?_
  refine jd_iconst (v := 0) dX1_ways_5 (by decide) ?_
  refine jd_istore_n (ls' := [_, _, _, _, _, _]) dX1_ways_6 (Nat.le_of_ble_eq_true rfl) rfl rfl ?_
  have lp7_1 : ∀ (j : Nat) (k : Nat) (hk0 : k + j = 6), jd_W G mX1_ways 3 (1 - 1) (6 - 6) 7 [some (.ref (β 0 0)), some (.int (nI f)), some (.ref (q)), some (.int (nI k)), none, none] [] (jd_up h (0, q) (q, jd_ia G 6 (aW0 κ f k))) (jd_na G h 6 (aW (wayW κ f 72))) jd_no := by
    intro j
    induction j with
    | zero =>
      intro k hk0
      obtain rfl : k = 6 := by omega
      refine jd_iload_n dX1_ways_7 rfl ?_
      refine jd_bipush (v := 6) dX1_ways_8 (by decide) ?_
      refine jd_ncmp_ge (a := 6) (b := 6) (tgt := 32) dX1_ways_10 (by decide) (by omega) (by omega) (fun z2 => ?_) (fun z3 => ?_)
      · refine jd_iconst (v := 0) dX1_ways_32 (by decide) ?_
        refine jd_istore_n (ls' := [_, _, _, _, _, _]) dX1_ways_33 (Nat.le_of_ble_eq_true rfl) rfl rfl ?_
        have lp34_4 : ∀ (j : Nat) (t : Nat) (ht0 : t + j = 72), jd_W G mX1_ways 3 (1 - 1) (6 - 6) 34 [some (.ref (β 0 0)), some (.int (nI f)), some (.ref (q)), some (.int (nI t)), none, none] [] (jd_up h (0, q) (q, jd_ia G 6 (aW (wayW κ f t)))) (jd_na G h 6 (aW (wayW κ f 72))) jd_no := by
          intro j
          induction j with
          | zero =>
            intro t ht0
            obtain rfl : t = 72 := by omega
            refine jd_iload_n dX1_ways_34 rfl ?_
            refine jd_bipush (v := 72) dX1_ways_35 (by decide) ?_
            refine jd_ncmp_ge (a := 72) (b := 72) (tgt := 132) dX1_ways_37 (by decide) (by omega) (by omega) (fun z5 => ?_) (fun z6 => ?_)
            · refine jd_aload_n dX1_ways_132 rfl ?_
              exact jd_aret dX1_ways_133 (Or.inr ⟨_, rfl⟩) ⟨q, hq, rfl, rfl⟩
            · omega
          | succ j ih34 =>
            intro t ht0
            refine jd_iload_n dX1_ways_34 rfl ?_
            refine jd_bipush (v := 72) dX1_ways_35 (by decide) ?_
            refine jd_ncmp_ge (a := t) (b := 72) (tgt := 132) dX1_ways_37 (by decide) (by omega) (by omega) (fun z7 => ?_) (fun z8 => ?_)
            · omega
            · refine jd_iconst (v := 0) dX1_ways_40 (by decide) ?_
              refine jd_istore (ls' := [_, _, _, _, _, _]) dX1_ways_41 (Nat.le_of_ble_eq_true rfl) rfl rfl ?_
              have lp43_9 : ∀ (j : Nat) (k : Nat) (hk0 : k + j = nG κ), jd_W G mX1_ways 3 (1 - 1) (6 - 6) 43 [some (.ref (β 0 0)), some (.int (nI f)), some (.ref (q)), some (.int (nI t)), some (.int (nI k)), none] [] (jd_up h (0, q) (q, jd_ia G 6 (aW (gatesW κ t (wayW κ f t) k)))) (jd_na G h 6 (aW (wayW κ f 72))) jd_no := by
                intro j
                induction j with
                | zero =>
                  intro k hk0
                  obtain rfl : k = nG κ := by omega
                  refine jd_iload dX1_ways_43 rfl ?_
                  refine jd_aload_n dX1_ways_45 rfl ?_
                  refine jd_get in_X1 (jd_tmp ((w_this hw))) 1 q284 dX1_ways_46 rfl (Nat.le_of_ble_eq_true rfl) rfl ?_
                  refine jd_pF (n := 0) (As := []) (rest := [.int (nI (nG κ))]) (ct_J2_size (jd_tmp hlG) (show nG κ ≤ 900 by omega)) (jd_rv (jd_tmp hlG) 15 rfl rfl) (ci := 15) rfl (List.mem_of_getElem? (i := 2) rfl) rfl q339 q342 q344 q83 q346 q341 q345 q343 q207 ⟨by decide, by decide, by decide +kernel⟩ dX1_ways_49 rfl rfl (Nat.le_of_ble_eq_true rfl) ⟨(Nat.le_of_ble_eq_true rfl), (Nat.le_of_ble_eq_true rfl)⟩ ?_
                  refine jd_ncmp_ge (a := nG κ) (b := nG κ) (tgt := 126) dX1_ways_54 (by decide) (by omega) (by omega) (fun z10 => ?_) (fun z11 => ?_)
                  · refine jd_iincN (n := 1) (ls' := [_, _, _, _, _, _]) dX1_ways_126 rfl (Nat.le_of_ble_eq_true rfl) rfl rfl ?_
                    refine jd_goto (tgt := 34) dX1_ways_129 (by decide) ?_
                    refine jd_lsub [some (.ref (β 0 0)), some (.int (nI f)), some (.ref (q)), some (.int (nI (t + 1))), none, none] ⟨rfl, rfl, rfl, rfl, trivial⟩ ?_
                    exact ih34 (t + 1) (by omega)
                  · omega
                | succ j ih43 =>
                  intro k hk0
                  have hg1 := hIg k (by omega)
                  refine jd_iload dX1_ways_43 rfl ?_
                  refine jd_aload_n dX1_ways_45 rfl ?_
                  refine jd_get in_X1 (jd_tmp ((w_this hw))) 1 q284 dX1_ways_46 rfl (Nat.le_of_ble_eq_true rfl) rfl ?_
                  refine jd_pF (n := 0) (As := []) (rest := [.int (nI k)]) (ct_J2_size (jd_tmp hlG) (show nG κ ≤ 900 by omega)) (jd_rv (jd_tmp hlG) 15 rfl rfl) (ci := 15) rfl (List.mem_of_getElem? (i := 2) rfl) rfl q339 q342 q344 q83 q346 q341 q345 q343 q207 ⟨by decide, by decide, by decide +kernel⟩ dX1_ways_49 rfl rfl (Nat.le_of_ble_eq_true rfl) ⟨(Nat.le_of_ble_eq_true rfl), (Nat.le_of_ble_eq_true rfl)⟩ ?_
                  refine jd_ncmp_ge (a := k) (b := nG κ) (tgt := 126) dX1_ways_54 (by decide) (by omega) (by omega) (fun z12 => ?_) (fun z13 => ?_)
                  · omega
                  · refine jd_aload_n dX1_ways_57 rfl ?_
                    refine jd_get in_X1 (jd_tmp ((w_this hw))) 1 q284 dX1_ways_58 rfl (Nat.le_of_ble_eq_true rfl) rfl ?_
                    refine jd_iload dX1_ways_61 rfl ?_
                    refine jd_pF (n := 1) (As := [.int (nI k)]) (rest := []) (ct_J2_get (jd_tmp hlG) (show nG κ ≤ 900 by omega) (k := k) (show k < nG κ by omega)) (jd_rv (jd_tmp hlG) 15 rfl rfl) (ci := 15) rfl (List.mem_of_getElem? (i := 1) rfl) rfl q320 q323 q325 q83 q327 q322 q326 q324 q207 ⟨by decide, by decide, by decide +kernel⟩ dX1_ways_63 rfl rfl (Nat.le_of_ble_eq_true rfl) ⟨(Nat.le_of_ble_eq_true rfl), (Nat.le_of_ble_eq_true rfl)⟩ ?_
                    refine jd_castS (jd_rv (jd_tmp (((w_gate hw)) k (show k < nG κ by omega))) 3 rfl rfl) (ci := 3) rfl q347 dX1_ways_68 ?_
                    refine jd_astore (ls' := [_, _, _, _, _, _]) dX1_ways_71 (Nat.le_of_ble_eq_true rfl) rfl rfl ?_
                    refine jd_aload dX1_ways_73 rfl ?_
                    refine jd_aload_n dX1_ways_75 rfl ?_
                    refine jd_get in_X1 (jd_tmp ((w_this hw))) 7 q290 dX1_ways_76 rfl (Nat.le_of_ble_eq_true rfl) rfl ?_
                    refine jd_iload_n dX1_ways_79 rfl ?_
                    refine jd_iadd dX1_ways_80 ?_
                    refine jd_bipush (v := 24) dX1_ways_81 (by decide) ?_
                    refine jd_irem dX1_ways_83 (by decide) ?_
                    refine jd_pV (As := [.int ((jd_rem ((nI ((nHour κ)) + nI t)) (24)))]) (rest := []) (ct_X7_isOpen (jd_tmp (((w_gate hw)) k (show k < nG κ by omega))) ((jd_rem ((nI ((nHour κ)) + nI t)) (24)))) (jd_rv (jd_tmp (((w_gate hw)) k (show k < nG κ by omega))) 3 rfl rfl) rfl q457 q458 q459 q103 q460 nX7_isOpen dX1_ways_84 rfl rfl rfl (Nat.le_of_ble_eq_true rfl) ⟨(Nat.le_of_ble_eq_true rfl), (Nat.le_of_ble_eq_true rfl)⟩ ?_
                    refine jd_bif_eq (tgt := 120) dX1_ways_87 (by decide) (fun z14 => ?_) (fun z15 => ?_)
                    · refine jd_iincN (n := 1) (ls' := [_, _, _, _, _, _]) dX1_ways_120 rfl (Nat.le_of_ble_eq_true rfl) rfl rfl ?_
                      refine jd_goto (tgt := 43) dX1_ways_123 (by decide) ?_
                      refine jd_heq (h' := (jd_up h (0, q) (q, jd_ia G 6 (aW (gatesW κ t (wayW κ f t) (k + 1)))))) (congrArg (fun F => jd_up h (0, q) (q, jd_ia G 6 F)) (congrArg aW (gateW_no z14))) ?_
                      refine jd_lsub [some (.ref (β 0 0)), some (.int (nI f)), some (.ref (q)), some (.int (nI t)), some (.int (nI (k + 1))), none] ⟨rfl, rfl, rfl, rfl, rfl, trivial⟩ ?_
                      exact ih43 (k + 1) (by omega)
                    · refine jd_aload_n dX1_ways_90 rfl ?_
                      refine jd_aload dX1_ways_91 rfl ?_
                      refine jd_getN in_X7 (jd_tmp (((w_gate hw)) k (show k < nG κ by omega))) 0 q780 dX1_ways_93 rfl (Nat.le_of_ble_eq_true rfl) rfl ?_
                      refine jd_aload dX1_ways_96 rfl ?_
                      refine jd_getN in_X7 (jd_tmp (((w_gate hw)) k (show k < nG κ by omega))) 1 q782 dX1_ways_98 rfl (Nat.le_of_ble_eq_true rfl) rfl ?_
                      refine jd_iload_n dX1_ways_101 rfl ?_
                      refine jd_callS (As := [.ref (q), .int (nI ((gOne κ k))), .int (nI ((gOther κ k))), .int (nI t)]) (rest := []) (ct_X1_go (q := q) (a := (gOne κ k)) (b := (gOther κ k)) (t := t) (W := gatesW κ t (wayW κ f t) k) (by omega) (by omega) (by omega) (gatesW_B (fun x j hj => Nat.le_succ_of_le (wayW_B t x j hj)) k)) rfl q566 q567 q80 q568 nX1_go dX1_ways_102 rfl rfl (Nat.le_of_ble_eq_true rfl) ⟨(Nat.le_of_ble_eq_true rfl), (Nat.le_of_ble_eq_true rfl), by omega, by omega⟩ (fun rv15 hn15 hq15 => ?_) jd_nox
                      obtain ⟨rfl, rfl⟩ := hq15
                      refine jd_aload_n dX1_ways_105 rfl ?_
                      refine jd_aload dX1_ways_106 rfl ?_
                      refine jd_getN in_X7 (jd_tmp (((w_gate hw)) k (show k < nG κ by omega))) 1 q782 dX1_ways_108 rfl (Nat.le_of_ble_eq_true rfl) rfl ?_
                      refine jd_aload dX1_ways_111 rfl ?_
                      refine jd_getN in_X7 (jd_tmp (((w_gate hw)) k (show k < nG κ by omega))) 0 q780 dX1_ways_113 rfl (Nat.le_of_ble_eq_true rfl) rfl ?_
                      refine jd_iload_n dX1_ways_116 rfl ?_
                      refine jd_callS (As := [.ref (q), .int (nI ((gOther κ k))), .int (nI ((gOne κ k))), .int (nI t)]) (rest := []) (ct_X1_go (q := q) (a := (gOther κ k)) (b := (gOne κ k)) (t := t) (W := goW (gatesW κ t (wayW κ f t) k) ((gOne κ k)) ((gOther κ k)) t) (by omega) (by omega) (by omega) (goW_B (gatesW_B (fun x j hj => Nat.le_succ_of_le (wayW_B t x j hj)) k))) rfl q566 q567 q80 q568 nX1_go dX1_ways_117 rfl rfl (Nat.le_of_ble_eq_true rfl) ⟨(Nat.le_of_ble_eq_true rfl), (Nat.le_of_ble_eq_true rfl), by omega, by omega⟩ (fun rv16 hn16 hq16 => ?_) jd_nox
                      obtain ⟨rfl, rfl⟩ := hq16
                      refine jd_iincN (n := 1) (ls' := [_, _, _, _, _, _]) dX1_ways_120 rfl (Nat.le_of_ble_eq_true rfl) rfl rfl ?_
                      refine jd_goto (tgt := 43) dX1_ways_123 (by decide) ?_
                      refine jd_heq (h' := (jd_up h (0, q) (q, jd_ia G 6 (aW (gatesW κ t (wayW κ f t) (k + 1)))))) (congrArg (fun F => jd_up h (0, q) (q, jd_ia G 6 F)) (congrArg aW (gateW_yes z15))) ?_
                      refine jd_lsub [some (.ref (β 0 0)), some (.int (nI f)), some (.ref (q)), some (.int (nI t)), some (.int (nI (k + 1))), none] ⟨rfl, rfl, rfl, rfl, rfl, trivial⟩ ?_
                      exact ih43 (k + 1) (by omega)
              refine jd_lsub [some (.ref (β 0 0)), some (.int (nI f)), some (.ref (q)), some (.int (nI t)), some (.int (nI 0)), none] ⟨rfl, rfl, rfl, rfl, rfl, trivial⟩ ?_
              exact lp43_9 (nG κ) 0 (by omega)
        refine jd_heq (h' := (jd_up h (0, q) (q, jd_ia G 6 (aW (wayW κ f 0))))) (congrArg (fun F => jd_up h (0, q) (q, jd_ia G 6 F)) (aW0_6.symm)) ?_
        refine jd_lsub [some (.ref (β 0 0)), some (.int (nI f)), some (.ref (q)), some (.int (nI 0)), none, none] ⟨rfl, rfl, rfl, rfl, trivial⟩ ?_
        exact lp34_4 (72) 0 (by omega)
      · omega
    | succ j ih7 =>
      intro k hk0
      refine jd_iload_n dX1_ways_7 rfl ?_
      refine jd_bipush (v := 6) dX1_ways_8 (by decide) ?_
      refine jd_ncmp_ge (a := k) (b := 6) (tgt := 32) dX1_ways_10 (by decide) (by omega) (by omega) (fun z18 => ?_) (fun z19 => ?_)
      · omega
      · refine jd_aload_n dX1_ways_13 rfl ?_
        refine jd_iload_n dX1_ways_14 rfl ?_
        refine jd_iload_n dX1_ways_15 rfl ?_
        refine jd_iload_n dX1_ways_16 rfl ?_
        refine jd_mg2 25 (.int ((if k = f then 0 else (-1)))) (fun hj20 => ?_) ?_
        · refine jd_ncmp_ne (a := k) (b := f) (tgt := 24) dX1_ways_17 (by decide) (by omega) (by omega) (fun z21 => ?_) (fun z22 => ?_)
          · refine jd_iconst (v := (-1)) dX1_ways_24 (by decide) ?_
            exact jd_top (congrArg Value.int (by rw [if_neg z21])) hj20
          · refine jd_iconst (v := 0) dX1_ways_20 (by decide) ?_
            refine jd_goto (tgt := 25) dX1_ways_21 (by decide) ?_
            exact jd_top (congrArg Value.int (by rw [if_pos z22])) hj20
        · refine jd_iast jd_up_s dX1_ways_25 (vp_in_nI (by omega) (by omega)) ?_
          refine jd_heq (h' := (jd_up h (0, q) (q, jd_ia G 6 (upd (aW0 κ f k) k ((if k = f then 0 else (-1))))))) (by rw [jd_up_up, nI_clamp (by omega)]) ?_
          refine jd_iincN (n := 1) (ls' := [_, _, _, _, _, _]) dX1_ways_26 rfl (Nat.le_of_ble_eq_true rfl) rfl rfl ?_
          refine jd_goto (tgt := 7) dX1_ways_29 (by decide) ?_
          refine jd_heq (h' := (jd_up h (0, q) (q, jd_ia G 6 (aW0 κ f (k + 1))))) (congrArg (fun F => jd_up h (0, q) (q, jd_ia G 6 F)) (aW0_s.symm)) ?_
          refine jd_lsub [some (.ref (β 0 0)), some (.int (nI f)), some (.ref (q)), some (.int (nI (k + 1))), none, none] ⟨rfl, rfl, rfl, rfl, trivial⟩ ?_
          exact ih7 (k + 1) (by omega)
  refine jd_heq (h' := (jd_up h (0, q) (q, jd_ia G 6 (aW0 κ f 0)))) (congrArg (fun F => jd_up h (0, q) (q, jd_ia G 6 F)) (aW0_0)) ?_
  refine jd_lsub [some (.ref (β 0 0)), some (.int (nI f)), some (.ref (q)), some (.int (nI 0)), none, none] ⟨rfl, rfl, rfl, rfl, trivial⟩ ?_
  exact lp7_1 (6) 0 (by omega)
