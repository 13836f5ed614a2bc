/-! the model: the checksum, plans (printed by mk_c.py) -/
set_option maxRecDepth 20000 in
set_option maxHeartbeats 2000000 in
theorem ct_X4_isSound {G : jd_G} {γ : ll_B} {κ : ll_K} {μ : ll_U} {h : jd_H} (hw : WM G γ κ μ h) (hI : ll_I κ)  : jd_Ct G mX4_isSound 5 (2) (16) [.ref (γ 0 0)] h (jd_mo G γ κ h 0 (.int 1) (κ)) jd_no := by
  obtain ⟨⟨hG8, hS12, hP24, hH40, hN99, hH24⟩, hIg, hIs, hIp, hIh, hIl, hIq⟩ := id hI
  obtain ⟨mcG, hlG⟩ := w_mgates hw
  obtain ⟨mcS, hlS⟩ := w_msleepers hw
  obtain ⟨mcP, hlP⟩ := w_mparts hw
  obtain ⟨mcH, hlH⟩ := w_mhidings hw
  refine jd_ct (ls := [some (.ref (γ 0 0))]) rfl rfl (by decide) (Nat.le_of_ble_eq_true rfl) rfl ?_
  refine jd_aload_n dX4_isSound_0 rfl ?_
  refine jd_iconst (v := 0) dX4_isSound_1 (by decide) ?_
  refine jd_put (fs' := [_, _, _, _, _, _, _, _, _, _, _, _, _]) in_X4 tyX4_ok nmX4 (w_mthis hw) 0 q1466 dX4_isSound_2 rfl (Nat.le_of_ble_eq_true rfl) rfl rfl rfl (Nat.le_of_ble_eq_true rfl) rfl ?_
  refine jd_updG (fun h1 hs1 ho1 => ?_)
  have hw1 := m_thrown hw (v := 0) hs1 ho1
  refine jd_aload_n dX4_isSound_5 rfl ?_
  refine jd_callV (As := []) (rest := []) (ct_X4_isSoundNow hw1 hI) (jd_rv (w_mthis hw1) 9 rfl rfl) rfl q1966 q1968 qs77 q90 q1969 nX4_isSoundNow dX4_isSound_6 rfl rfl rfl (Nat.le_of_ble_eq_true rfl) ⟨(Nat.le_of_ble_eq_true rfl), (Nat.le_of_ble_eq_true rfl), by omega, by omega⟩ (fun rv1 hn1 hq1 => ?_) jd_nox
  obtain ⟨rfl, he1⟩ := hq1
  rw [he1]
  exact jd_zret dX4_isSound_9 rfl (Or.inr rfl) (jd_mo.ok (γ' := γ) (μ' := (mu_s μ 0 0 0)) rfl rfl rfl hw1 rfl (fun j hj => (ho1 j (ll_nel (by decide) hj))))

set_option maxRecDepth 20000 in
set_option maxHeartbeats 2000000 in
theorem ct_X4_add {G : jd_G} {γ : ll_B} {κ : ll_K} {μ : ll_U} {h : jd_H} (hw : WM G γ κ μ h) (x : Int64) : jd_Ct G mX4_add 0 (0) (0) [.ref (γ 0 0), .long (x)] h (fun (r : Option Value) (h2 : jd_H) => r = none ∧ WM G γ κ (μ.1, μ.2 * 31 + x) h2 ∧ ∀ j : jd_Id, (j.1 < 20 ∨ 40 ≤ j.1) → h2 j = h j) jd_no := by
  have hnone := True.intro
  refine jd_ct (ls := [some (.ref (γ 0 0)), some (.long (x)), none]) rfl rfl (by decide) (Nat.le_of_ble_eq_true rfl) rfl ?_
  refine jd_aload_n dX4_add_0 rfl ?_
  refine jd_aload_n dX4_add_1 rfl ?_
  refine jd_get in_X4 (w_mthis hw) 12 q1478 dX4_add_2 rfl (Nat.le_of_ble_eq_true rfl) rfl ?_
  refine jd_ldc2 q1979 dX4_add_5 ?_
  refine jd_lmul dX4_add_8 ?_
  refine jd_lload_n dX4_add_9 rfl ?_
  refine jd_ladd dX4_add_10 ?_
  refine jd_put (fs' := [_, _, _, _, _, _, _, _, _, _, _, _, _]) in_X4 tyX4_ok nmX4 (w_mthis hw) 12 q1478 dX4_add_11 rfl (Nat.le_of_ble_eq_true rfl) rfl rfl rfl (Nat.le_of_ble_eq_true rfl) rfl ?_
  refine jd_updG (fun h1 hs1 ho1 => ?_)
  have hw1 := m_sum hw (v := ((μ.2 * 31) + x)) hs1 ho1
  exact jd_vret dX4_add_14 rfl ⟨rfl, hw1, (fun j hj => (ho1 j (ll_nel (by decide) hj)))⟩

set_option maxRecDepth 20000 in
set_option maxHeartbeats 2000000 in
theorem ct_X4_digest {G : jd_G} {γ : ll_B} {κ : ll_K} {μ : ll_U} {h : jd_H} (hw : WM G γ κ μ h) (hI : ll_I κ)  : jd_Ct G mX4_digest 7 (20) (813) [.ref (γ 0 0)] h (jd_mo G γ κ h 0 (.long (digestV κ)) κ) jd_no := by
  obtain ⟨⟨hG8, hS12, hP24, hH40, hN99, hH24⟩, hIg, hIs, hIp, hIh, hIl, hIq⟩ := id hI
  obtain ⟨mcG, hlG⟩ := w_mgates hw
  obtain ⟨mcS, hlS⟩ := w_msleepers hw
  obtain ⟨mcP, hlP⟩ := w_mparts hw
  obtain ⟨mcH, hlH⟩ := w_mhidings hw
  refine jd_ct (ls := [some (.ref (γ 0 0)), none, none]) rfl rfl (by decide) (Nat.le_of_ble_eq_true rfl) rfl ?_
  refine jd_aload_n dX4_digest_0 rfl ?_
  refine jd_iconst (v := 0) dX4_digest_1 (by decide) ?_
  refine jd_put (fs' := [_, _, _, _, _, _, _, _, _, _, _, _, _]) in_X4 tyX4_ok nmX4 (w_mthis hw) 0 q1466 dX4_digest_2 rfl (Nat.le_of_ble_eq_true rfl) rfl rfl rfl (Nat.le_of_ble_eq_true rfl) rfl ?_
  refine jd_updG (fun h1 hs1 ho1 => ?_)
  have hw1 := m_thrown hw (v := 0) hs1 ho1
  refine jd_aload_n dX4_digest_5 rfl ?_
  refine jd_ldc2 q1974 dX4_digest_6 ?_
  refine jd_put (fs' := [_, _, _, _, _, _, _, _, _, _, _, _, _]) in_X4 tyX4_ok nmX4 (w_mthis hw1) 12 q1478 dX4_digest_9 rfl (Nat.le_of_ble_eq_true rfl) rfl rfl rfl (Nat.le_of_ble_eq_true rfl) rfl ?_
  refine jd_updG (fun h2 hs2 ho2 => ?_)
  have hw2 := m_sum hw1 (v := 6007) hs2 ho2
  have hw0x : WM G γ κ ((mu_s μ 0 0 0).1, 6007) h2 := hw2
  refine jd_iconst (v := 0) dX4_digest_12 (by decide) ?_
  refine jd_istore_n (ls' := [_, _, _]) dX4_digest_13 (Nat.le_of_ble_eq_true rfl) rfl rfl ?_
  have lp14_3 : ∀ (j : Nat) (k : Nat) (hk0 : k + j = 17) (hh : jd_H) (hw2 : WM G γ κ ((mu_s μ 0 0 0).1, (ll_fd (fun w => nightVal κ w) 6007 k)) hh) (hf2 : ∀ j : jd_Id, (j.1 < 20 ∨ 40 ≤ j.1) → hh j = h j), jd_W G mX4_digest 7 (1 * j + 3) (4 * j + 745) 14 [some (.ref (γ 0 0)), some (.int (nI k)), none] [] hh (jd_mo G γ κ h 0 (.long (digestV κ)) κ) jd_no := by
    intro j
    induction j with
    | zero =>
      intro k hk0 hh hw2 hf2
      obtain rfl : k = 17 := by omega
      refine jd_iload_n dX4_digest_14 rfl ?_
      refine jd_bipush (v := 17) dX4_digest_15 (by decide) ?_
      refine jd_ncmp_ge (a := 17) (b := 17) (tgt := 36) dX4_digest_17 (by decide) (by omega) (by omega) (fun z4 => ?_) (fun z5 => ?_)
      · refine jd_iconst (v := 0) dX4_digest_36 (by decide) ?_
        refine jd_istore_n (ls' := [_, _, _]) dX4_digest_37 (Nat.le_of_ble_eq_true rfl) rfl rfl ?_
        have lp38_6 : ∀ (j : Nat) (l : Nat) (hl0 : l + j = 6) (hh : jd_H) (hw2 : WM G γ κ ((mu_s μ 0 0 0).1, (dgLands κ (ll_fd (fun w => nightVal κ w) 6007 17) l)) hh) (hf2 : ∀ j : jd_Id, (j.1 < 20 ∨ 40 ≤ j.1) → hh j = h j), jd_W G mX4_digest 7 (1 * 0 + 3) (4 * 0 + 745) 38 [some (.ref (γ 0 0)), some (.int (nI l)), none] [] hh (jd_mo G γ κ h 0 (.long (digestV κ)) κ) jd_no := by
          intro j
          induction j with
          | zero =>
            intro l hl0 hh hw2 hf2
            obtain rfl : l = 6 := by omega
            refine jd_iload_n dX4_digest_38 rfl ?_
            refine jd_bipush (v := 6) dX4_digest_39 (by decide) ?_
            refine jd_ncmp_ge (a := 6) (b := 6) (tgt := 75) dX4_digest_41 (by decide) (by omega) (by omega) (fun z7 => ?_) (fun z8 => ?_)
            · refine jd_iconst (v := 0) dX4_digest_75 (by decide) ?_
              refine jd_istore_n (ls' := [_, _, _]) dX4_digest_76 (Nat.le_of_ble_eq_true rfl) rfl rfl ?_
              have lp77_9 : ∀ (j : Nat) (g : Nat) (hg0 : g + j = nG κ) (hh : jd_H) (hw2 : WM G γ κ ((mu_s μ 0 0 0).1, (dgGates κ (dgLands κ (ll_fd (fun w => nightVal κ w) 6007 17) 6) g)) hh) (hf2 : ∀ j : jd_Id, (j.1 < 20 ∨ 40 ≤ j.1) → hh j = h j), jd_W G mX4_digest 7 (1 * 0 + 3) (4 * 0 + 745) 77 [some (.ref (γ 0 0)), some (.int (nI g)), none] [] hh (jd_mo G γ κ h 0 (.long (digestV κ)) κ) jd_no := by
                intro j
                induction j with
                | zero =>
                  intro g hg0 hh hw2 hf2
                  obtain rfl : g = nG κ := by omega
                  refine jd_iload_n dX4_digest_77 rfl ?_
                  refine jd_aload_n dX4_digest_78 rfl ?_
                  refine jd_get in_X4 (w_mthis hw2) 7 q1473 dX4_digest_79 rfl (Nat.le_of_ble_eq_true rfl) rfl ?_
                  obtain ⟨mcl10, hl10_⟩ := w_mgates hw2
                  refine jd_pV (As := []) (rest := [.int (nI (nG κ))]) (ct_J2_size hl10_ (show nG κ ≤ 900 by omega)) (jd_rv hl10_ 15 rfl rfl) rfl q1533 q344 q1999 q83 q346 nJ2_size dX4_digest_82 rfl rfl rfl (Nat.le_of_ble_eq_true rfl) ⟨(Nat.le_of_ble_eq_true rfl), (Nat.le_of_ble_eq_true rfl)⟩ ?_
                  refine jd_ncmp_ge (a := nG κ) (b := nG κ) (tgt := 129) dX4_digest_85 (by decide) (by omega) (by omega) (fun z11 => ?_) (fun z12 => ?_)
                  · refine jd_iconst (v := 0) dX4_digest_129 (by decide) ?_
                    refine jd_istore_n (ls' := [_, _, _]) dX4_digest_130 (Nat.le_of_ble_eq_true rfl) rfl rfl ?_
                    have lp131_13 : ∀ (j : Nat) (s : Nat) (hs0 : s + j = nS κ) (hh : jd_H) (hw2 : WM G γ κ ((mu_s μ 0 0 0).1, (dgSl κ (dgGates κ (dgLands κ (ll_fd (fun w => nightVal κ w) 6007 17) 6) (nG κ)) s)) hh) (hf2 : ∀ j : jd_Id, (j.1 < 20 ∨ 40 ≤ j.1) → hh j = h j), jd_W G mX4_digest 7 (1 * 0 + 3) (4 * 0 + 745) 131 [some (.ref (γ 0 0)), some (.int (nI s)), none] [] hh (jd_mo G γ κ h 0 (.long (digestV κ)) κ) jd_no := by
                      intro j
                      induction j with
                      | zero =>
                        intro s hs0 hh hw2 hf2
                        obtain rfl : s = nS κ := by omega
                        refine jd_iload_n dX4_digest_131 rfl ?_
                        refine jd_aload_n dX4_digest_132 rfl ?_
                        refine jd_get in_X4 (w_mthis hw2) 8 q1474 dX4_digest_133 rfl (Nat.le_of_ble_eq_true rfl) rfl ?_
                        obtain ⟨mcl14, hl14_⟩ := w_msleepers hw2
                        refine jd_pV (As := []) (rest := [.int (nI (nS κ))]) (ct_J2_size hl14_ (show nS κ ≤ 900 by omega)) (jd_rv hl14_ 15 rfl rfl) rfl q1533 q344 q1999 q83 q346 nJ2_size dX4_digest_136 rfl rfl rfl (Nat.le_of_ble_eq_true rfl) ⟨(Nat.le_of_ble_eq_true rfl), (Nat.le_of_ble_eq_true rfl)⟩ ?_
                        refine jd_ncmp_ge (a := nS κ) (b := nS κ) (tgt := 173) dX4_digest_139 (by decide) (by omega) (by omega) (fun z15 => ?_) (fun z16 => ?_)
                        · refine jd_iconst (v := 0) dX4_digest_173 (by decide) ?_
                          refine jd_istore_n (ls' := [_, _, _]) dX4_digest_174 (Nat.le_of_ble_eq_true rfl) rfl rfl ?_
                          have lp175_17 : ∀ (j : Nat) (p : Nat) (hp0 : p + j = nP κ) (hh : jd_H) (hw2 : WM G γ κ ((mu_s μ 0 0 0).1, (dgPt κ (dgSl κ (dgGates κ (dgLands κ (ll_fd (fun w => nightVal κ w) 6007 17) 6) (nG κ)) (nS κ)) p)) hh) (hf2 : ∀ j : jd_Id, (j.1 < 20 ∨ 40 ≤ j.1) → hh j = h j), jd_W G mX4_digest 7 (1 * 0 + 3) (4 * 0 + 745) 175 [some (.ref (γ 0 0)), some (.int (nI p)), none] [] hh (jd_mo G γ κ h 0 (.long (digestV κ)) κ) jd_no := by
                            intro j
                            induction j with
                            | zero =>
                              intro p hp0 hh hw2 hf2
                              obtain rfl : p = nP κ := by omega
                              refine jd_iload_n dX4_digest_175 rfl ?_
                              refine jd_aload_n dX4_digest_176 rfl ?_
                              refine jd_get in_X4 (w_mthis hw2) 9 q1475 dX4_digest_177 rfl (Nat.le_of_ble_eq_true rfl) rfl ?_
                              obtain ⟨mcl18, hl18_⟩ := w_mparts hw2
                              refine jd_pV (As := []) (rest := [.int (nI (nP κ))]) (ct_J2_size hl18_ (show nP κ ≤ 900 by omega)) (jd_rv hl18_ 15 rfl rfl) rfl q1533 q344 q1999 q83 q346 nJ2_size dX4_digest_180 rfl rfl rfl (Nat.le_of_ble_eq_true rfl) ⟨(Nat.le_of_ble_eq_true rfl), (Nat.le_of_ble_eq_true rfl)⟩ ?_
                              refine jd_ncmp_ge (a := nP κ) (b := nP κ) (tgt := 217) dX4_digest_183 (by decide) (by omega) (by omega) (fun z19 => ?_) (fun z20 => ?_)
                              · refine jd_iconst (v := 0) dX4_digest_217 (by decide) ?_
                                refine jd_istore_n (ls' := [_, _, _]) dX4_digest_218 (Nat.le_of_ble_eq_true rfl) rfl rfl ?_
                                have lp219_21 : ∀ (j : Nat) (l : Nat) (hl0 : l + j = 6) (hh : jd_H) (hw2 : WM G γ κ ((mu_s μ 0 0 0).1, (ll_fd (fun l => wayN κ 0 l) (dg1 κ) l)) hh) (hf2 : ∀ j : jd_Id, (j.1 < 20 ∨ 40 ≤ j.1) → hh j = h j), jd_W G mX4_digest 7 (1 * 0 + 3) (4 * 0 + 745) 219 [some (.ref (γ 0 0)), some (.int (nI l)), none] [] hh (jd_mo G γ κ h 0 (.long (digestV κ)) κ) jd_no := by
                                  intro j
                                  induction j with
                                  | zero =>
                                    intro l hl0 hh hw2 hf2
                                    obtain rfl : l = 6 := by omega
                                    refine jd_iload_n dX4_digest_219 rfl ?_
                                    refine jd_bipush (v := 6) dX4_digest_220 (by decide) ?_
                                    refine jd_ncmp_ge (a := 6) (b := 6) (tgt := 242) dX4_digest_222 (by decide) (by omega) (by omega) (fun z22 => ?_) (fun z23 => ?_)
                                    · refine jd_aload_n dX4_digest_242 rfl ?_
                                      refine jd_aload_n dX4_digest_243 rfl ?_
                                      refine jd_bipush (v := 20) dX4_digest_244 (by decide) ?_
                                      refine jd_iconst (v := (-1)) dX4_digest_246 (by decide) ?_
                                      refine jd_callV (As := [.int (20), .int ((-1))]) (rest := [.ref (γ 0 0)]) (ct_X4_planNow hw2 hI (20) (by omega) (none) (fun j hj => by cases hj)) (jd_rv (w_mthis hw2) 9 rfl rfl) rfl q1945 q1947 qs74 q90 q1948 nX4_planNow dX4_digest_247 rfl rfl rfl (Nat.le_of_ble_eq_true rfl) ⟨(Nat.le_of_ble_eq_true rfl), (Nat.le_of_ble_eq_true rfl), by omega, by omega⟩ (fun rv23 hn23 hq23 => ?_) jd_nox
                                      obtain ⟨rfl, he23⟩ := hq23
                                      rw [he23]
                                      refine jd_i2l dX4_digest_250 ?_
                                      refine jd_callV (As := [.long (((planVal κ 20 none)).toInt64)]) (rest := []) (ct_X4_add hw2 (((planVal κ 20 none)).toInt64)) (jd_rv (w_mthis hw2) 9 rfl rfl) rfl q1975 q1977 qs78 q90 q1978 nX4_add dX4_digest_251 rfl rfl rfl (Nat.le_of_ble_eq_true rfl) ⟨(Nat.le_of_ble_eq_true rfl), (Nat.le_of_ble_eq_true rfl), by omega, by omega⟩ (fun rv24 hn24 hq24 => ?_) jd_nox
                                      obtain ⟨rfl, hw24_, hf24_⟩ := hq24
                                      have hw24x : WM G γ κ ((mu_s μ 0 0 0).1, ((ll_fd (fun l => wayN κ 0 l) (dg1 κ) 6) * 31 + ((planVal κ 20 none)).toInt64)) hn24 := hw24_
                                      refine jd_aload_n dX4_digest_254 rfl ?_
                                      refine jd_aload_n dX4_digest_255 rfl ?_
                                      refine jd_callV (As := []) (rest := [.ref (γ 0 0)]) (ct_X4_isSoundNow hw24x hI) (jd_rv (w_mthis hw24x) 9 rfl rfl) rfl q1966 q1968 qs77 q90 q1969 nX4_isSoundNow dX4_digest_256 rfl rfl rfl (Nat.le_of_ble_eq_true rfl) ⟨(Nat.le_of_ble_eq_true rfl), (Nat.le_of_ble_eq_true rfl), by omega, by omega⟩ (fun rv25 hn25 hq25 => ?_) jd_nox
                                      obtain ⟨rfl, he25⟩ := hq25
                                      rw [he25]
                                      refine jd_nif_eq (a := 1) (tgt := 266) dX4_digest_259 (by decide) (by omega) (fun z27 => ?_) (fun z28 => ?_)
                                      · omega
                                      · refine jd_lconst (v := 1) dX4_digest_262 (by decide) ?_
                                        refine jd_goto (tgt := 267) dX4_digest_263 (by decide) ?_
                                        refine jd_callV (As := [.long (1)]) (rest := []) (ct_X4_add hw24x (1)) (jd_rv (w_mthis hw24x) 9 rfl rfl) rfl q1975 q1977 qs78 q90 q1978 nX4_add dX4_digest_267 rfl rfl rfl (Nat.le_of_ble_eq_true rfl) ⟨(Nat.le_of_ble_eq_true rfl), (Nat.le_of_ble_eq_true rfl), by omega, by omega⟩ (fun rv28 hn28 hq28 => ?_) jd_nox
                                        obtain ⟨rfl, hw28_, hf28_⟩ := hq28
                                        have hw28x : WM G γ κ ((mu_s μ 0 0 0).1, (((ll_fd (fun l => wayN κ 0 l) (dg1 κ) 6) * 31 + ((planVal κ 20 none)).toInt64) * 31 + 1)) hn28 := hw28_
                                        refine jd_aload_n dX4_digest_270 rfl ?_
                                        refine jd_get in_X4 (w_mthis hw28x) 12 q1478 dX4_digest_271 rfl (Nat.le_of_ble_eq_true rfl) rfl ?_
                                        exact jd_lret dX4_digest_274 rfl (jd_mo.ok (γ' := γ) (μ' := ((mu_s μ 0 0 0).1, (((ll_fd (fun l => wayN κ 0 l) (dg1 κ) 6) * 31 + ((planVal κ 20 none)).toInt64) * 31 + 1))) rfl rfl rfl hw28x rfl (fun j hj => ((hf28_ j hj).trans ((hf24_ j hj).trans (hf2 j hj)))))
                                    · omega
                                  | succ j ih219 =>
                                    intro l hl0 hh hw2 hf2
                                    refine jd_iload_n dX4_digest_219 rfl ?_
                                    refine jd_bipush (v := 6) dX4_digest_220 (by decide) ?_
                                    refine jd_ncmp_ge (a := l) (b := 6) (tgt := 242) dX4_digest_222 (by decide) (by omega) (by omega) (fun z30 => ?_) (fun z31 => ?_)
                                    · omega
                                    · refine jd_aload_n dX4_digest_225 rfl ?_
                                      refine jd_aload_n dX4_digest_226 rfl ?_
                                      refine jd_iconst (v := 0) dX4_digest_227 (by decide) ?_
                                      refine jd_iload_n dX4_digest_228 rfl ?_
                                      refine jd_pV (As := [.int (0), .int (nI l)]) (rest := [.ref (γ 0 0)]) (ct_X4_wayNow hw2 hI (0) (by omega) (l) (by omega)) (jd_rv (w_mthis hw2) 9 rfl rfl) rfl q1937 q1939 qs73 q90 q1940 nX4_wayNow dX4_digest_229 rfl rfl rfl (Nat.le_of_ble_eq_true rfl) ⟨(Nat.le_of_ble_eq_true rfl), (Nat.le_of_ble_eq_true rfl)⟩ ?_
                                      refine jd_i2l dX4_digest_232 ?_
                                      refine jd_callV (As := [.long (((wayN κ 0 l)).toInt64)]) (rest := []) (ct_X4_add hw2 (((wayN κ 0 l)).toInt64)) (jd_rv (w_mthis hw2) 9 rfl rfl) rfl q1975 q1977 qs78 q90 q1978 nX4_add dX4_digest_233 rfl rfl rfl (Nat.le_of_ble_eq_true rfl) ⟨(Nat.le_of_ble_eq_true rfl), (Nat.le_of_ble_eq_true rfl), by omega, by omega⟩ (fun rv31 hn31 hq31 => ?_) jd_nox
                                      obtain ⟨rfl, hw31_, hf31_⟩ := hq31
                                      have hw31x : WM G γ κ ((mu_s μ 0 0 0).1, ((ll_fd (fun l => wayN κ 0 l) (dg1 κ) l) * 31 + ((wayN κ 0 l)).toInt64)) hn31 := hw31_
                                      refine jd_iincN (n := 1) (ls' := [_, _, _]) dX4_digest_236 rfl (Nat.le_of_ble_eq_true rfl) rfl rfl ?_
                                      refine jd_goto (tgt := 219) dX4_digest_239 (by decide) ?_
                                      refine jd_lsub [some (.ref (γ 0 0)), some (.int (nI (l + 1))), none] ⟨rfl, rfl, trivial⟩ ?_
                                      exact ih219 (l + 1) (by omega) hn31 hw31x (fun j hj => ((hf31_ j hj).trans (hf2 j hj)))
                                refine jd_lsub [some (.ref (γ 0 0)), some (.int (nI 0)), none] ⟨rfl, rfl, trivial⟩ ?_
                                exact lp219_21 (6) 0 (by omega) hh hw2 (fun j hj => (hf2 j hj))
                              · omega
                            | succ j ih175 =>
                              intro p hp0 hh hw2 hf2
                              refine jd_iload_n dX4_digest_175 rfl ?_
                              refine jd_aload_n dX4_digest_176 rfl ?_
                              refine jd_get in_X4 (w_mthis hw2) 9 q1475 dX4_digest_177 rfl (Nat.le_of_ble_eq_true rfl) rfl ?_
                              obtain ⟨mcl33, hl33_⟩ := w_mparts hw2
                              refine jd_pV (As := []) (rest := [.int (nI p)]) (ct_J2_size hl33_ (show nP κ ≤ 900 by omega)) (jd_rv hl33_ 15 rfl rfl) rfl q1533 q344 q1999 q83 q346 nJ2_size dX4_digest_180 rfl rfl rfl (Nat.le_of_ble_eq_true rfl) ⟨(Nat.le_of_ble_eq_true rfl), (Nat.le_of_ble_eq_true rfl)⟩ ?_
                              refine jd_ncmp_ge (a := p) (b := nP κ) (tgt := 217) dX4_digest_183 (by decide) (by omega) (by omega) (fun z34 => ?_) (fun z35 => ?_)
                              · omega
                              · refine jd_iconst (v := 3) dX4_digest_186 (by decide) ?_
                                refine jd_istore_n (ls' := [_, _, _]) dX4_digest_187 (Nat.le_of_ble_eq_true rfl) rfl rfl ?_
                                have lp188_36 : ∀ (j : Nat) (k : Nat) (hk0 : k + j = 3) (hh : jd_H) (hw2 : WM G γ κ ((mu_s μ 0 0 0).1, (ll_fd (fun w => partVal κ p (3 + w)) (dgPt κ (dgSl κ (dgGates κ (dgLands κ (ll_fd (fun w => nightVal κ w) 6007 17) 6) (nG κ)) (nS κ)) p) k)) hh) (hf2 : ∀ j : jd_Id, (j.1 < 20 ∨ 40 ≤ j.1) → hh j = h j), jd_W G mX4_digest 7 (1 * 0 + 3) (4 * 0 + 745) 188 [some (.ref (γ 0 0)), some (.int (nI p)), some (.int (nI (3 + k)))] [] hh (jd_mo G γ κ h 0 (.long (digestV κ)) κ) jd_no := by
                                  intro j
                                  induction j with
                                  | zero =>
                                    intro k hk0 hh hw2 hf2
                                    obtain rfl : k = 3 := by omega
                                    refine jd_iload_n dX4_digest_188 rfl ?_
                                    refine jd_bipush (v := 6) dX4_digest_189 (by decide) ?_
                                    refine jd_ncmp_ge (a := 3 + 3) (b := 6) (tgt := 211) dX4_digest_191 (by decide) (by omega) (by omega) (fun z37 => ?_) (fun z38 => ?_)
                                    · refine jd_iincN (n := 1) (ls' := [_, _, _]) dX4_digest_211 rfl (Nat.le_of_ble_eq_true rfl) rfl rfl ?_
                                      refine jd_goto (tgt := 175) dX4_digest_214 (by decide) ?_
                                      refine jd_lsub [some (.ref (γ 0 0)), some (.int (nI (p + 1))), none] ⟨rfl, rfl, trivial⟩ ?_
                                      exact ih175 (p + 1) (by omega) hh hw2 (fun j hj => (hf2 j hj))
                                    · omega
                                  | succ j ih188 =>
                                    intro k hk0 hh hw2 hf2
                                    refine jd_iload_n dX4_digest_188 rfl ?_
                                    refine jd_bipush (v := 6) dX4_digest_189 (by decide) ?_
                                    refine jd_ncmp_ge (a := 3 + k) (b := 6) (tgt := 211) dX4_digest_191 (by decide) (by omega) (by omega) (fun z39 => ?_) (fun z40 => ?_)
                                    · omega
                                    · refine jd_aload_n dX4_digest_194 rfl ?_
                                      refine jd_aload_n dX4_digest_195 rfl ?_
                                      refine jd_iload_n dX4_digest_196 rfl ?_
                                      refine jd_iload_n dX4_digest_197 rfl ?_
                                      refine jd_pV (As := [.int (nI p), .int (nI (3 + k))]) (rest := [.ref (γ 0 0)]) (ct_X4_ofPartNow hw2 hI (p) (by omega) (3 + k) (by omega)) (jd_rv (w_mthis hw2) 9 rfl rfl) rfl q1904 q1906 qs71 q90 q1907 nX4_ofPartNow dX4_digest_198 rfl rfl rfl (Nat.le_of_ble_eq_true rfl) ⟨(Nat.le_of_ble_eq_true rfl), (Nat.le_of_ble_eq_true rfl)⟩ ?_
                                      refine jd_i2l dX4_digest_201 ?_
                                      refine jd_callV (As := [.long (((partVal κ p (3 + k))).toInt64)]) (rest := []) (ct_X4_add hw2 (((partVal κ p (3 + k))).toInt64)) (jd_rv (w_mthis hw2) 9 rfl rfl) rfl q1975 q1977 qs78 q90 q1978 nX4_add dX4_digest_202 rfl rfl rfl (Nat.le_of_ble_eq_true rfl) ⟨(Nat.le_of_ble_eq_true rfl), (Nat.le_of_ble_eq_true rfl), by omega, by omega⟩ (fun rv40 hn40 hq40 => ?_) jd_nox
                                      obtain ⟨rfl, hw40_, hf40_⟩ := hq40
                                      have hw40x : WM G γ κ ((mu_s μ 0 0 0).1, ((ll_fd (fun w => partVal κ p (3 + w)) (dgPt κ (dgSl κ (dgGates κ (dgLands κ (ll_fd (fun w => nightVal κ w) 6007 17) 6) (nG κ)) (nS κ)) p) k) * 31 + ((partVal κ p (3 + k))).toInt64)) hn40 := hw40_
                                      refine jd_iincN (n := 1) (ls' := [_, _, _]) dX4_digest_205 rfl (Nat.le_of_ble_eq_true rfl) rfl rfl ?_
                                      refine jd_goto (tgt := 188) dX4_digest_208 (by decide) ?_
                                      refine jd_lsub [some (.ref (γ 0 0)), some (.int (nI p)), some (.int (nI (3 + (k + 1))))] ⟨rfl, rfl, rfl, trivial⟩ ?_
                                      exact ih188 (k + 1) (by omega) hn40 hw40x (fun j hj => ((hf40_ j hj).trans (hf2 j hj)))
                                refine jd_lsub [some (.ref (γ 0 0)), some (.int (nI p)), some (.int (nI (3 + 0)))] ⟨rfl, rfl, rfl, trivial⟩ ?_
                                exact lp188_36 (3) 0 (by omega) hh hw2 (fun j hj => (hf2 j hj))
                          refine jd_lsub [some (.ref (γ 0 0)), some (.int (nI 0)), none] ⟨rfl, rfl, trivial⟩ ?_
                          exact lp175_17 (nP κ) 0 (by omega) hh hw2 (fun j hj => (hf2 j hj))
                        · omega
                      | succ j ih131 =>
                        intro s hs0 hh hw2 hf2
                        refine jd_iload_n dX4_digest_131 rfl ?_
                        refine jd_aload_n dX4_digest_132 rfl ?_
                        refine jd_get in_X4 (w_mthis hw2) 8 q1474 dX4_digest_133 rfl (Nat.le_of_ble_eq_true rfl) rfl ?_
                        obtain ⟨mcl42, hl42_⟩ := w_msleepers hw2
                        refine jd_pV (As := []) (rest := [.int (nI s)]) (ct_J2_size hl42_ (show nS κ ≤ 900 by omega)) (jd_rv hl42_ 15 rfl rfl) rfl q1533 q344 q1999 q83 q346 nJ2_size dX4_digest_136 rfl rfl rfl (Nat.le_of_ble_eq_true rfl) ⟨(Nat.le_of_ble_eq_true rfl), (Nat.le_of_ble_eq_true rfl)⟩ ?_
                        refine jd_ncmp_ge (a := s) (b := nS κ) (tgt := 173) dX4_digest_139 (by decide) (by omega) (by omega) (fun z43 => ?_) (fun z44 => ?_)
                        · omega
                        · refine jd_iconst (v := 0) dX4_digest_142 (by decide) ?_
                          refine jd_istore_n (ls' := [_, _, _]) dX4_digest_143 (Nat.le_of_ble_eq_true rfl) rfl rfl ?_
                          have lp144_45 : ∀ (j : Nat) (k : Nat) (hk0 : k + j = 9) (hh : jd_H) (hw2 : WM G γ κ ((mu_s μ 0 0 0).1, (ll_fd (fun w => sleeperVal κ s w) (dgSl κ (dgGates κ (dgLands κ (ll_fd (fun w => nightVal κ w) 6007 17) 6) (nG κ)) s) k)) hh) (hf2 : ∀ j : jd_Id, (j.1 < 20 ∨ 40 ≤ j.1) → hh j = h j), jd_W G mX4_digest 7 (1 * 0 + 3) (4 * 0 + 745) 144 [some (.ref (γ 0 0)), some (.int (nI s)), some (.int (nI k))] [] hh (jd_mo G γ κ h 0 (.long (digestV κ)) κ) jd_no := by
                            intro j
                            induction j with
                            | zero =>
                              intro k hk0 hh hw2 hf2
                              obtain rfl : k = 9 := by omega
                              refine jd_iload_n dX4_digest_144 rfl ?_
                              refine jd_bipush (v := 9) dX4_digest_145 (by decide) ?_
                              refine jd_ncmp_ge (a := 9) (b := 9) (tgt := 167) dX4_digest_147 (by decide) (by omega) (by omega) (fun z46 => ?_) (fun z47 => ?_)
                              · refine jd_iincN (n := 1) (ls' := [_, _, _]) dX4_digest_167 rfl (Nat.le_of_ble_eq_true rfl) rfl rfl ?_
                                refine jd_goto (tgt := 131) dX4_digest_170 (by decide) ?_
                                refine jd_lsub [some (.ref (γ 0 0)), some (.int (nI (s + 1))), none] ⟨rfl, rfl, trivial⟩ ?_
                                exact ih131 (s + 1) (by omega) hh hw2 (fun j hj => (hf2 j hj))
                              · omega
                            | succ j ih144 =>
                              intro k hk0 hh hw2 hf2
                              refine jd_iload_n dX4_digest_144 rfl ?_
                              refine jd_bipush (v := 9) dX4_digest_145 (by decide) ?_
                              refine jd_ncmp_ge (a := k) (b := 9) (tgt := 167) dX4_digest_147 (by decide) (by omega) (by omega) (fun z48 => ?_) (fun z49 => ?_)
                              · omega
                              · refine jd_aload_n dX4_digest_150 rfl ?_
                                refine jd_aload_n dX4_digest_151 rfl ?_
                                refine jd_iload_n dX4_digest_152 rfl ?_
                                refine jd_iload_n dX4_digest_153 rfl ?_
                                refine jd_pV (As := [.int (nI s), .int (nI k)]) (rest := [.ref (γ 0 0)]) (ct_X4_ofSleeperNow hw2 hI (s) (by omega) (k) (by omega)) (jd_rv (w_mthis hw2) 9 rfl rfl) rfl q1892 q1894 qs69 q90 q1895 nX4_ofSleeperNow dX4_digest_154 rfl rfl rfl (Nat.le_of_ble_eq_true rfl) ⟨(Nat.le_of_ble_eq_true rfl), (Nat.le_of_ble_eq_true rfl)⟩ ?_
                                refine jd_i2l dX4_digest_157 ?_
                                refine jd_callV (As := [.long (((sleeperVal κ s k)).toInt64)]) (rest := []) (ct_X4_add hw2 (((sleeperVal κ s k)).toInt64)) (jd_rv (w_mthis hw2) 9 rfl rfl) rfl q1975 q1977 qs78 q90 q1978 nX4_add dX4_digest_158 rfl rfl rfl (Nat.le_of_ble_eq_true rfl) ⟨(Nat.le_of_ble_eq_true rfl), (Nat.le_of_ble_eq_true rfl), by omega, by omega⟩ (fun rv49 hn49 hq49 => ?_) jd_nox
                                obtain ⟨rfl, hw49_, hf49_⟩ := hq49
                                have hw49x : WM G γ κ ((mu_s μ 0 0 0).1, ((ll_fd (fun w => sleeperVal κ s w) (dgSl κ (dgGates κ (dgLands κ (ll_fd (fun w => nightVal κ w) 6007 17) 6) (nG κ)) s) k) * 31 + ((sleeperVal κ s k)).toInt64)) hn49 := hw49_
                                refine jd_iincN (n := 1) (ls' := [_, _, _]) dX4_digest_161 rfl (Nat.le_of_ble_eq_true rfl) rfl rfl ?_
                                refine jd_goto (tgt := 144) dX4_digest_164 (by decide) ?_
                                refine jd_lsub [some (.ref (γ 0 0)), some (.int (nI s)), some (.int (nI (k + 1)))] ⟨rfl, rfl, rfl, trivial⟩ ?_
                                exact ih144 (k + 1) (by omega) hn49 hw49x (fun j hj => ((hf49_ j hj).trans (hf2 j hj)))
                          refine jd_lsub [some (.ref (γ 0 0)), some (.int (nI s)), some (.int (nI 0))] ⟨rfl, rfl, rfl, trivial⟩ ?_
                          exact lp144_45 (9) 0 (by omega) hh hw2 (fun j hj => (hf2 j hj))
                    refine jd_lsub [some (.ref (γ 0 0)), some (.int (nI 0)), none] ⟨rfl, rfl, trivial⟩ ?_
                    exact lp131_13 (nS κ) 0 (by omega) hh hw2 (fun j hj => (hf2 j hj))
                  · omega
                | succ j ih77 =>
                  intro g hg0 hh hw2 hf2
                  refine jd_iload_n dX4_digest_77 rfl ?_
                  refine jd_aload_n dX4_digest_78 rfl ?_
                  refine jd_get in_X4 (w_mthis hw2) 7 q1473 dX4_digest_79 rfl (Nat.le_of_ble_eq_true rfl) rfl ?_
                  obtain ⟨mcl51, hl51_⟩ := w_mgates hw2
                  refine jd_pV (As := []) (rest := [.int (nI g)]) (ct_J2_size hl51_ (show nG κ ≤ 900 by omega)) (jd_rv hl51_ 15 rfl rfl) rfl q1533 q344 q1999 q83 q346 nJ2_size dX4_digest_82 rfl rfl rfl (Nat.le_of_ble_eq_true rfl) ⟨(Nat.le_of_ble_eq_true rfl), (Nat.le_of_ble_eq_true rfl)⟩ ?_
                  refine jd_ncmp_ge (a := g) (b := nG κ) (tgt := 129) dX4_digest_85 (by decide) (by omega) (by omega) (fun z52 => ?_) (fun z53 => ?_)
                  · omega
                  · refine jd_iconst (v := 2) dX4_digest_88 (by decide) ?_
                    refine jd_istore_n (ls' := [_, _, _]) dX4_digest_89 (Nat.le_of_ble_eq_true rfl) rfl rfl ?_
                    have lp90_54 : ∀ (j : Nat) (k : Nat) (hk0 : k + j = 8) (hh : jd_H) (hw2 : WM G γ κ ((mu_s μ 0 0 0).1, (ll_fd (fun w => gateVal κ g (2 + w)) (dgGates κ (dgLands κ (ll_fd (fun w => nightVal κ w) 6007 17) 6) g) k)) hh) (hf2 : ∀ j : jd_Id, (j.1 < 20 ∨ 40 ≤ j.1) → hh j = h j), jd_W G mX4_digest 7 (1 * 0 + 3) (4 * 0 + 745) 90 [some (.ref (γ 0 0)), some (.int (nI g)), some (.int (nI (2 + k)))] [] hh (jd_mo G γ κ h 0 (.long (digestV κ)) κ) jd_no := by
                      intro j
                      induction j with
                      | zero =>
                        intro k hk0 hh hw2 hf2
                        obtain rfl : k = 8 := by omega
                        refine jd_iload_n dX4_digest_90 rfl ?_
                        refine jd_bipush (v := 10) dX4_digest_91 (by decide) ?_
                        refine jd_ncmp_ge (a := 2 + 8) (b := 10) (tgt := 113) dX4_digest_93 (by decide) (by omega) (by omega) (fun z55 => ?_) (fun z56 => ?_)
                        · refine jd_aload_n dX4_digest_113 rfl ?_
                          refine jd_aload_n dX4_digest_114 rfl ?_
                          refine jd_iload_n dX4_digest_115 rfl ?_
                          refine jd_pV (As := [.int (nI g)]) (rest := [.ref (γ 0 0)]) (ct_X4_wouldPayNow hw2 hI (g) (by omega)) (jd_rv (w_mthis hw2) 9 rfl rfl) rfl q1958 q1960 qs76 q90 q1961 nX4_wouldPayNow dX4_digest_116 rfl rfl rfl (Nat.le_of_ble_eq_true rfl) ⟨(Nat.le_of_ble_eq_true rfl), (Nat.le_of_ble_eq_true rfl)⟩ ?_
                          refine jd_i2l dX4_digest_119 ?_
                          refine jd_callV (As := [.long (((wouldPay κ g)).toInt64)]) (rest := []) (ct_X4_add hw2 (((wouldPay κ g)).toInt64)) (jd_rv (w_mthis hw2) 9 rfl rfl) rfl q1975 q1977 qs78 q90 q1978 nX4_add dX4_digest_120 rfl rfl rfl (Nat.le_of_ble_eq_true rfl) ⟨(Nat.le_of_ble_eq_true rfl), (Nat.le_of_ble_eq_true rfl), by omega, by omega⟩ (fun rv56 hn56 hq56 => ?_) jd_nox
                          obtain ⟨rfl, hw56_, hf56_⟩ := hq56
                          have hw56x : WM G γ κ ((mu_s μ 0 0 0).1, ((ll_fd (fun w => gateVal κ g (2 + w)) (dgGates κ (dgLands κ (ll_fd (fun w => nightVal κ w) 6007 17) 6) g) 8) * 31 + ((wouldPay κ g)).toInt64)) hn56 := hw56_
                          refine jd_iincN (n := 1) (ls' := [_, _, _]) dX4_digest_123 rfl (Nat.le_of_ble_eq_true rfl) rfl rfl ?_
                          refine jd_goto (tgt := 77) dX4_digest_126 (by decide) ?_
                          refine jd_lsub [some (.ref (γ 0 0)), some (.int (nI (g + 1))), none] ⟨rfl, rfl, trivial⟩ ?_
                          exact ih77 (g + 1) (by omega) hn56 hw56x (fun j hj => ((hf56_ j hj).trans (hf2 j hj)))
                        · omega
                      | succ j ih90 =>
                        intro k hk0 hh hw2 hf2
                        refine jd_iload_n dX4_digest_90 rfl ?_
                        refine jd_bipush (v := 10) dX4_digest_91 (by decide) ?_
                        refine jd_ncmp_ge (a := 2 + k) (b := 10) (tgt := 113) dX4_digest_93 (by decide) (by omega) (by omega) (fun z58 => ?_) (fun z59 => ?_)
                        · omega
                        · refine jd_aload_n dX4_digest_96 rfl ?_
                          refine jd_aload_n dX4_digest_97 rfl ?_
                          refine jd_iload_n dX4_digest_98 rfl ?_
                          refine jd_iload_n dX4_digest_99 rfl ?_
                          refine jd_pV (As := [.int (nI g), .int (nI (2 + k))]) (rest := [.ref (γ 0 0)]) (ct_X4_ofGateNow hw2 hI (g) (by omega) (2 + k) (by omega)) (jd_rv (w_mthis hw2) 9 rfl rfl) rfl q1880 q1882 qs67 q90 q1883 nX4_ofGateNow dX4_digest_100 rfl rfl rfl (Nat.le_of_ble_eq_true rfl) ⟨(Nat.le_of_ble_eq_true rfl), (Nat.le_of_ble_eq_true rfl)⟩ ?_
                          refine jd_i2l dX4_digest_103 ?_
                          refine jd_callV (As := [.long (((gateVal κ g (2 + k))).toInt64)]) (rest := []) (ct_X4_add hw2 (((gateVal κ g (2 + k))).toInt64)) (jd_rv (w_mthis hw2) 9 rfl rfl) rfl q1975 q1977 qs78 q90 q1978 nX4_add dX4_digest_104 rfl rfl rfl (Nat.le_of_ble_eq_true rfl) ⟨(Nat.le_of_ble_eq_true rfl), (Nat.le_of_ble_eq_true rfl), by omega, by omega⟩ (fun rv59 hn59 hq59 => ?_) jd_nox
                          obtain ⟨rfl, hw59_, hf59_⟩ := hq59
                          have hw59x : WM G γ κ ((mu_s μ 0 0 0).1, ((ll_fd (fun w => gateVal κ g (2 + w)) (dgGates κ (dgLands κ (ll_fd (fun w => nightVal κ w) 6007 17) 6) g) k) * 31 + ((gateVal κ g (2 + k))).toInt64)) hn59 := hw59_
                          refine jd_iincN (n := 1) (ls' := [_, _, _]) dX4_digest_107 rfl (Nat.le_of_ble_eq_true rfl) rfl rfl ?_
                          refine jd_goto (tgt := 90) dX4_digest_110 (by decide) ?_
                          refine jd_lsub [some (.ref (γ 0 0)), some (.int (nI g)), some (.int (nI (2 + (k + 1))))] ⟨rfl, rfl, rfl, trivial⟩ ?_
                          exact ih90 (k + 1) (by omega) hn59 hw59x (fun j hj => ((hf59_ j hj).trans (hf2 j hj)))
                    refine jd_lsub [some (.ref (γ 0 0)), some (.int (nI g)), some (.int (nI (2 + 0)))] ⟨rfl, rfl, rfl, trivial⟩ ?_
                    exact lp90_54 (8) 0 (by omega) hh hw2 (fun j hj => (hf2 j hj))
              refine jd_lsub [some (.ref (γ 0 0)), some (.int (nI 0)), none] ⟨rfl, rfl, trivial⟩ ?_
              exact lp77_9 (nG κ) 0 (by omega) hh hw2 (fun j hj => (hf2 j hj))
            · omega
          | succ j ih38 =>
            intro l hl0 hh hw2 hf2
            refine jd_iload_n dX4_digest_38 rfl ?_
            refine jd_bipush (v := 6) dX4_digest_39 (by decide) ?_
            refine jd_ncmp_ge (a := l) (b := 6) (tgt := 75) dX4_digest_41 (by decide) (by omega) (by omega) (fun z61 => ?_) (fun z62 => ?_)
            · omega
            · refine jd_iconst (v := 0) dX4_digest_44 (by decide) ?_
              refine jd_istore_n (ls' := [_, _, _]) dX4_digest_45 (Nat.le_of_ble_eq_true rfl) rfl rfl ?_
              have lp46_63 : ∀ (j : Nat) (k : Nat) (hk0 : k + j = 9) (hh : jd_H) (hw2 : WM G γ κ ((mu_s μ 0 0 0).1, (ll_fd (fun w => landVal κ l w) (dgLands κ (ll_fd (fun w => nightVal κ w) 6007 17) l) k)) hh) (hf2 : ∀ j : jd_Id, (j.1 < 20 ∨ 40 ≤ j.1) → hh j = h j), jd_W G mX4_digest 7 (1 * 0 + 3) (4 * 0 + 745) 46 [some (.ref (γ 0 0)), some (.int (nI l)), some (.int (nI k))] [] hh (jd_mo G γ κ h 0 (.long (digestV κ)) κ) jd_no := by
                intro j
                induction j with
                | zero =>
                  intro k hk0 hh hw2 hf2
                  obtain rfl : k = 9 := by omega
                  refine jd_iload_n dX4_digest_46 rfl ?_
                  refine jd_bipush (v := 9) dX4_digest_47 (by decide) ?_
                  refine jd_ncmp_ge (a := 9) (b := 9) (tgt := 69) dX4_digest_49 (by decide) (by omega) (by omega) (fun z64 => ?_) (fun z65 => ?_)
                  · refine jd_iincN (n := 1) (ls' := [_, _, _]) dX4_digest_69 rfl (Nat.le_of_ble_eq_true rfl) rfl rfl ?_
                    refine jd_goto (tgt := 38) dX4_digest_72 (by decide) ?_
                    refine jd_lsub [some (.ref (γ 0 0)), some (.int (nI (l + 1))), none] ⟨rfl, rfl, trivial⟩ ?_
                    exact ih38 (l + 1) (by omega) hh hw2 (fun j hj => (hf2 j hj))
                  · omega
                | succ j ih46 =>
                  intro k hk0 hh hw2 hf2
                  refine jd_iload_n dX4_digest_46 rfl ?_
                  refine jd_bipush (v := 9) dX4_digest_47 (by decide) ?_
                  refine jd_ncmp_ge (a := k) (b := 9) (tgt := 69) dX4_digest_49 (by decide) (by omega) (by omega) (fun z66 => ?_) (fun z67 => ?_)
                  · omega
                  · refine jd_aload_n dX4_digest_52 rfl ?_
                    refine jd_aload_n dX4_digest_53 rfl ?_
                    refine jd_iload_n dX4_digest_54 rfl ?_
                    refine jd_iload_n dX4_digest_55 rfl ?_
                    refine jd_pV (As := [.int (nI l), .int (nI k)]) (rest := [.ref (γ 0 0)]) (ct_X4_ofLandNow hw2 hI (l) (by omega) (k) (by omega)) (jd_rv (w_mthis hw2) 9 rfl rfl) rfl q1864 q1866 qs64 q90 q1867 nX4_ofLandNow dX4_digest_56 rfl rfl rfl (Nat.le_of_ble_eq_true rfl) ⟨(Nat.le_of_ble_eq_true rfl), (Nat.le_of_ble_eq_true rfl)⟩ ?_
                    refine jd_i2l dX4_digest_59 ?_
                    refine jd_callV (As := [.long (((landVal κ l k)).toInt64)]) (rest := []) (ct_X4_add hw2 (((landVal κ l k)).toInt64)) (jd_rv (w_mthis hw2) 9 rfl rfl) rfl q1975 q1977 qs78 q90 q1978 nX4_add dX4_digest_60 rfl rfl rfl (Nat.le_of_ble_eq_true rfl) ⟨(Nat.le_of_ble_eq_true rfl), (Nat.le_of_ble_eq_true rfl), by omega, by omega⟩ (fun rv67 hn67 hq67 => ?_) jd_nox
                    obtain ⟨rfl, hw67_, hf67_⟩ := hq67
                    have hw67x : WM G γ κ ((mu_s μ 0 0 0).1, ((ll_fd (fun w => landVal κ l w) (dgLands κ (ll_fd (fun w => nightVal κ w) 6007 17) l) k) * 31 + ((landVal κ l k)).toInt64)) hn67 := hw67_
                    refine jd_iincN (n := 1) (ls' := [_, _, _]) dX4_digest_63 rfl (Nat.le_of_ble_eq_true rfl) rfl rfl ?_
                    refine jd_goto (tgt := 46) dX4_digest_66 (by decide) ?_
                    refine jd_lsub [some (.ref (γ 0 0)), some (.int (nI l)), some (.int (nI (k + 1)))] ⟨rfl, rfl, rfl, trivial⟩ ?_
                    exact ih46 (k + 1) (by omega) hn67 hw67x (fun j hj => ((hf67_ j hj).trans (hf2 j hj)))
              refine jd_lsub [some (.ref (γ 0 0)), some (.int (nI l)), some (.int (nI 0))] ⟨rfl, rfl, rfl, trivial⟩ ?_
              exact lp46_63 (9) 0 (by omega) hh hw2 (fun j hj => (hf2 j hj))
        refine jd_lsub [some (.ref (γ 0 0)), some (.int (nI 0)), none] ⟨rfl, rfl, trivial⟩ ?_
        exact lp38_6 (6) 0 (by omega) hh hw2 (fun j hj => (hf2 j hj))
      · omega
    | succ j ih14 =>
      intro k hk0 hh hw2 hf2
      refine jd_iload_n dX4_digest_14 rfl ?_
      refine jd_bipush (v := 17) dX4_digest_15 (by decide) ?_
      refine jd_ncmp_ge (a := k) (b := 17) (tgt := 36) dX4_digest_17 (by decide) (by omega) (by omega) (fun z69 => ?_) (fun z70 => ?_)
      · omega
      · refine jd_aload_n dX4_digest_20 rfl ?_
        refine jd_aload_n dX4_digest_21 rfl ?_
        refine jd_iload_n dX4_digest_22 rfl ?_
        refine jd_callV (As := [.int (nI k)]) (rest := [.ref (γ 0 0)]) (ct_X4_nightNow hw2 hI (k) (by omega)) (jd_rv (w_mthis hw2) 9 rfl rfl) rfl q1929 q1931 qs72 q90 q1932 nX4_nightNow dX4_digest_23 rfl rfl rfl (Nat.le_of_ble_eq_true rfl) ⟨(Nat.le_of_ble_eq_true rfl), (Nat.le_of_ble_eq_true rfl), by omega, by omega⟩ (fun rv70 hn70 hq70 => ?_) jd_nox
        obtain ⟨rfl, he70⟩ := hq70
        rw [he70]
        refine jd_i2l dX4_digest_26 ?_
        refine jd_callV (As := [.long (((nightVal κ k)).toInt64)]) (rest := []) (ct_X4_add hw2 (((nightVal κ k)).toInt64)) (jd_rv (w_mthis hw2) 9 rfl rfl) rfl q1975 q1977 qs78 q90 q1978 nX4_add dX4_digest_27 rfl rfl rfl (Nat.le_of_ble_eq_true rfl) ⟨(Nat.le_of_ble_eq_true rfl), (Nat.le_of_ble_eq_true rfl), by omega, by omega⟩ (fun rv71 hn71 hq71 => ?_) jd_nox
        obtain ⟨rfl, hw71_, hf71_⟩ := hq71
        have hw71x : WM G γ κ ((mu_s μ 0 0 0).1, ((ll_fd (fun w => nightVal κ w) 6007 k) * 31 + ((nightVal κ k)).toInt64)) hn71 := hw71_
        refine jd_iincN (n := 1) (ls' := [_, _, _]) dX4_digest_30 rfl (Nat.le_of_ble_eq_true rfl) rfl rfl ?_
        refine jd_goto (tgt := 14) dX4_digest_33 (by decide) ?_
        refine jd_wk (cb' := 1 * (j) + 3) (sb' := 4 * (j) + 745) ?_ (by omega) (by omega)
        refine jd_lsub [some (.ref (γ 0 0)), some (.int (nI (k + 1))), none] ⟨rfl, rfl, trivial⟩ ?_
        exact ih14 (k + 1) (by omega) hn71 hw71x (fun j hj => ((hf71_ j hj).trans (hf2 j hj)))
  refine jd_wk (cb' := 1 * (17) + 3) (sb' := 4 * (17) + 745) ?_ (by omega) (by omega)
  refine jd_lsub [some (.ref (γ 0 0)), some (.int (nI 0)), none] ⟨rfl, rfl, trivial⟩ ?_
  exact lp14_3 (17) 0 (by omega) h2 hw0x (fun j hj => ((ho2 j (ll_nel (by decide) hj)).trans (ho1 j (ll_nel (by decide) hj))))

set_option maxRecDepth 20000 in
set_option maxHeartbeats 2000000 in
theorem ct_X4_plan {G : jd_G} {γ : ll_B} {κ : ll_K} {μ : ll_U} {h : jd_H} (hw : WM G γ κ μ h) (hI : ll_I κ) (p : Int32) (g : Int32) : jd_Ct G mX4_plan 7 (1) (729) [.ref (γ 0 0), .int (p), .int (g)] h (jd_mo G γ κ h (c_plan κ p g) (.int (planVal κ (tN p) (oN g))) (κ)) jd_no := by
  obtain ⟨⟨hG8, hS12, hP24, hH40, hN99, hH24⟩, hIg, hIs, hIp, hIh, hIl, hIq⟩ := id hI
  obtain ⟨mcG, hlG⟩ := w_mgates hw
  obtain ⟨mcS, hlS⟩ := w_msleepers hw
  obtain ⟨mcP, hlP⟩ := w_mparts hw
  obtain ⟨mcH, hlH⟩ := w_mhidings hw
  refine jd_ct (ls := [some (.ref (γ 0 0)), some (.int (p)), some (.int (g))]) rfl rfl (by decide) (Nat.le_of_ble_eq_true rfl) rfl ?_
  refine jd_aload_n dX4_plan_0 rfl ?_
  refine jd_iconst (v := 0) dX4_plan_1 (by decide) ?_
  refine jd_put (fs' := [_, _, _, _, _, _, _, _, _, _, _, _, _]) in_X4 tyX4_ok nmX4 (w_mthis hw) 0 q1466 dX4_plan_2 rfl (Nat.le_of_ble_eq_true rfl) rfl rfl rfl (Nat.le_of_ble_eq_true rfl) rfl ?_
  refine jd_updG (fun h1 hs1 ho1 => ?_)
  have hw1 := m_thrown hw (v := 0) hs1 ho1
  refine jd_iload_n dX4_plan_5 rfl ?_
  refine jd_iconst (v := (-1)) dX4_plan_6 (by decide) ?_
  refine jd_icmp_eq (tgt := 24) dX4_plan_7 (by decide) (fun z2 => ?_) (fun z3 => ?_)
  · have hpc := plan_c (κ := κ) (Or.inl z2)
    obtain ⟨o, ho, rfl⟩ := plan_o hI hpc
    have hoN := oN_oI (o := o) (fun j hj => by have := ho j hj; omega)
    refine jd_iload_n dX4_plan_24 rfl ?_
    refine jd_iconst (v := 0) dX4_plan_25 (by decide) ?_
    refine jd_sipush (v := 2000) dX4_plan_26 (by decide) ?_
    refine jd_pS (As := [.int (p), .int (0), .int (2000)]) (rest := []) (ct_X4_is (p) (0) (2000)) rfl q1518 q1519 q90 q1520 nX4_is dX4_plan_29 rfl rfl (Nat.le_of_ble_eq_true rfl) ⟨(Nat.le_of_ble_eq_true rfl), (Nat.le_of_ble_eq_true rfl)⟩ ?_
    refine jd_bif_eq (tgt := 44) dX4_plan_32 (by decide) (fun z4 => ?_) (fun z5 => ?_)
    · have hcc6 := z4
      refine jd_aload_n dX4_plan_44 rfl ?_
      refine jd_iconst (v := 2) dX4_plan_45 (by decide) ?_
      refine jd_callV (As := [.int (2)]) (rest := []) (ct_X4_refuse hw1 (2)) (jd_rv (w_mthis hw1) 9 rfl rfl) rfl q1521 q1523 qs50 q90 q1524 nX4_refuse dX4_plan_46 rfl rfl rfl (Nat.le_of_ble_eq_true rfl) ⟨(Nat.le_of_ble_eq_true rfl), (Nat.le_of_ble_eq_true rfl), by omega, by omega⟩ (fun rv6 hn6 hq6 => ?_) jd_nox
      obtain ⟨rfl, hw6_, hf6_⟩ := hq6
      exact jd_iret dX4_plan_49 rfl (jd_mo.no (γ' := γ) (μ' := (mu_s (mu_s μ 0 0 0) 0 0 2)) (k := 2) (by unfold c_plan; (try simp only [hoN]); rw [if_pos hpc, if_neg hcc6]) (by decide) rfl hw6_ rfl (fun j hj => ((hf6_ j hj).trans (ho1 j (ll_nel (by decide) hj)))))
    · have hcc8 := z5
      obtain ⟨k_p, hk_p, rfl⟩ := inR_ex (lo := 0) (hi := 2000) hcc8 (by omega) (by omega)
      have hT_p := tN_nI (show k_p < 2 ^ 31 by omega)
      refine jd_aload_n dX4_plan_35 rfl ?_
      refine jd_iload_n dX4_plan_36 rfl ?_
      refine jd_iload_n dX4_plan_37 rfl ?_
      refine jd_callV (As := [.int (nI k_p), .int ((oI o))]) (rest := []) (ct_X4_planNow hw1 hI (k_p) (by omega) (o) ho) (jd_rv (w_mthis hw1) 9 rfl rfl) rfl q1945 q1947 qs74 q90 q1948 nX4_planNow dX4_plan_38 rfl rfl rfl (Nat.le_of_ble_eq_true rfl) ⟨(Nat.le_of_ble_eq_true rfl), (Nat.le_of_ble_eq_true rfl), by omega, by omega⟩ (fun rv8 hn8 hq8 => ?_) jd_nox
      obtain ⟨rfl, he8⟩ := hq8
      rw [he8]
      refine jd_goto (tgt := 49) dX4_plan_41 (by decide) ?_
      exact jd_iret dX4_plan_49 rfl (jd_mo.ok (γ' := γ) (μ' := (mu_s μ 0 0 0)) (by unfold c_plan; (try simp only [hoN, hT_p]); rw [if_pos hpc, if_pos hcc8]) (by first | (simp only [hoN, hT_p]; done) | (simp only [hoN, hT_p]; rfl) | rfl) rfl hw1 rfl (fun j hj => (ho1 j (ll_nel (by decide) hj))))
  · have hg7 := z3
    refine jd_aload_n dX4_plan_10 rfl ?_
    refine jd_iload_n dX4_plan_11 rfl ?_
    refine jd_pV (As := [.int (g)]) (rest := []) (ct_X4_isGate hw1 hI (g)) (jd_rv (w_mthis hw1) 9 rfl rfl) rfl q1580 q1582 qs51 q90 q1583 nX4_isGate dX4_plan_12 rfl rfl rfl (Nat.le_of_ble_eq_true rfl) ⟨(Nat.le_of_ble_eq_true rfl), (Nat.le_of_ble_eq_true rfl)⟩ ?_
    refine jd_bif_ne (tgt := 24) dX4_plan_15 (by decide) (fun z10 => ?_) (fun z11 => ?_)
    · have hpc := plan_c (Or.inr z10)
      obtain ⟨o, ho, rfl⟩ := plan_o hI hpc
      have hoN := oN_oI (o := o) (fun j hj => by have := ho j hj; omega)
      refine jd_iload_n dX4_plan_24 rfl ?_
      refine jd_iconst (v := 0) dX4_plan_25 (by decide) ?_
      refine jd_sipush (v := 2000) dX4_plan_26 (by decide) ?_
      refine jd_pS (As := [.int (p), .int (0), .int (2000)]) (rest := []) (ct_X4_is (p) (0) (2000)) rfl q1518 q1519 q90 q1520 nX4_is dX4_plan_29 rfl rfl (Nat.le_of_ble_eq_true rfl) ⟨(Nat.le_of_ble_eq_true rfl), (Nat.le_of_ble_eq_true rfl)⟩ ?_
      refine jd_bif_eq (tgt := 44) dX4_plan_32 (by decide) (fun z12 => ?_) (fun z13 => ?_)
      · have hcc14 := z12
        refine jd_aload_n dX4_plan_44 rfl ?_
        refine jd_iconst (v := 2) dX4_plan_45 (by decide) ?_
        refine jd_callV (As := [.int (2)]) (rest := []) (ct_X4_refuse hw1 (2)) (jd_rv (w_mthis hw1) 9 rfl rfl) rfl q1521 q1523 qs50 q90 q1524 nX4_refuse dX4_plan_46 rfl rfl rfl (Nat.le_of_ble_eq_true rfl) ⟨(Nat.le_of_ble_eq_true rfl), (Nat.le_of_ble_eq_true rfl), by omega, by omega⟩ (fun rv14 hn14 hq14 => ?_) jd_nox
        obtain ⟨rfl, hw14_, hf14_⟩ := hq14
        exact jd_iret dX4_plan_49 rfl (jd_mo.no (γ' := γ) (μ' := (mu_s (mu_s μ 0 0 0) 0 0 2)) (k := 2) (by unfold c_plan; (try simp only [hoN]); rw [if_pos hpc, if_neg hcc14]) (by decide) rfl hw14_ rfl (fun j hj => ((hf14_ j hj).trans (ho1 j (ll_nel (by decide) hj)))))
      · have hcc16 := z13
        obtain ⟨k_p, hk_p, rfl⟩ := inR_ex (lo := 0) (hi := 2000) hcc16 (by omega) (by omega)
        have hT_p := tN_nI (show k_p < 2 ^ 31 by omega)
        refine jd_aload_n dX4_plan_35 rfl ?_
        refine jd_iload_n dX4_plan_36 rfl ?_
        refine jd_iload_n dX4_plan_37 rfl ?_
        refine jd_callV (As := [.int (nI k_p), .int ((oI o))]) (rest := []) (ct_X4_planNow hw1 hI (k_p) (by omega) (o) ho) (jd_rv (w_mthis hw1) 9 rfl rfl) rfl q1945 q1947 qs74 q90 q1948 nX4_planNow dX4_plan_38 rfl rfl rfl (Nat.le_of_ble_eq_true rfl) ⟨(Nat.le_of_ble_eq_true rfl), (Nat.le_of_ble_eq_true rfl), by omega, by omega⟩ (fun rv16 hn16 hq16 => ?_) jd_nox
        obtain ⟨rfl, he16⟩ := hq16
        rw [he16]
        refine jd_goto (tgt := 49) dX4_plan_41 (by decide) ?_
        exact jd_iret dX4_plan_49 rfl (jd_mo.ok (γ' := γ) (μ' := (mu_s μ 0 0 0)) (by unfold c_plan; (try simp only [hoN, hT_p]); rw [if_pos hpc, if_pos hcc16]) (by first | (simp only [hoN, hT_p]; done) | (simp only [hoN, hT_p]; rfl) | rfl) rfl hw1 rfl (fun j hj => (ho1 j (ll_nel (by decide) hj))))
    · have hpc := plan_n hg7 z11
      refine jd_aload_n dX4_plan_18 rfl ?_
      refine jd_iconst (v := 1) dX4_plan_19 (by decide) ?_
      refine jd_callV (As := [.int (1)]) (rest := []) (ct_X4_refuse hw1 (1)) (jd_rv (w_mthis hw1) 9 rfl rfl) rfl q1521 q1523 qs50 q90 q1524 nX4_refuse dX4_plan_20 rfl rfl rfl (Nat.le_of_ble_eq_true rfl) ⟨(Nat.le_of_ble_eq_true rfl), (Nat.le_of_ble_eq_true rfl), by omega, by omega⟩ (fun rv17 hn17 hq17 => ?_) jd_nox
      obtain ⟨rfl, hw17_, hf17_⟩ := hq17
      exact jd_iret dX4_plan_23 rfl (jd_mo.no (γ' := γ) (μ' := (mu_s (mu_s μ 0 0 0) 0 0 1)) (k := 1) (by unfold c_plan; rw [if_neg hpc]) (by decide) rfl hw17_ rfl (fun j hj => ((hf17_ j hj).trans (ho1 j (ll_nel (by decide) hj)))))
