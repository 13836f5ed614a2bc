/-! the law: sound, the checksum (printed by mk_c.py) -/
set_option maxRecDepth 20000 in
set_option maxHeartbeats 2000000 in
theorem law_25 {G : jd_G} {β γ : ll_B} {κ : ll_K} {μ : ll_U} {h : jd_H} (hw : WC G β κ h) (hm : WM G γ κ μ h) (hI : ll_I κ) {o : Nat} {n : Int64} {sv : Value} (ho : WO o n sv h) {k c s : Nat} (hk : 5 * k + 5 ≤ jd_k G 7) (hL : jd_k G 7 ≤ 320) {Q : Option Value → jd_H → Prop} {X : String → jd_H → Prop} (kk : law_k G β γ o k c s Q X) : jd_W G mL_law 20 (c + 2000) (s + 100000) 1951 [some (.ref (jd_k G 6)), some (.ref (β 0 0)), some (.ref (γ 0 0)), some (.ref (o)), some (.int (nI (5 * k))), none, none] [] h Q X := by
  refine jd_aload_n dL_law_1951 rfl ?_
  refine jd_pV (As := []) (rest := []) (ct_X1_isSound hw hI) (jd_rv (w_this hw) 0 rfl rfl) rfl q311 q312 q313 q80 q314 nX1_isSound dL_law_1952 rfl rfl rfl (Nat.le_of_ble_eq_true rfl) ⟨(Nat.le_of_ble_eq_true rfl), (Nat.le_of_ble_eq_true rfl)⟩ ?_
  refine jd_aload_n dL_law_1955 rfl ?_
  refine jd_callV (As := []) (rest := [.int (1)]) (ct_X4_isSound hm hI) (jd_rv (w_mthis hm) 9 rfl rfl) rfl q1962 q1963 q1964 q90 q1965 nX4_isSound dL_law_1956 rfl rfl rfl (Nat.le_of_ble_eq_true rfl) ⟨(Nat.le_of_ble_eq_true rfl), (Nat.le_of_ble_eq_true rfl), by omega, by omega⟩ (fun rv0 hn0 hq0 => ?_) jd_nox
  obtain ⟨⟨w1, rfl, hv1, hx1⟩, ⟨g1, m1, hg1, hm2, ht1⟩, hf2⟩ := hq0
  rw [if_pos rfl] at hm2
  obtain rfl := hv1 rfl
  have hw2 := hw.of (fun j hj => hf2 j (Or.inl hj))
  have ho2 := (hf2 (40, 0) (Or.inr (by decide))).trans ho.at
  refine jd_ncmp_eq (a := 1) (b := 1) (tgt := 1978) dL_law_1959 (by decide) (by omega) (by omega) (fun z2 => ?_) (fun z3 => ?_)
  · refine jd_lsub [some (.ref (jd_k G 6)), some (.ref (β 0 0)), some (.ref (γ 0 0)), some (.ref (o)), some (.int (nI (5 * k))), none, none] ⟨rfl, rfl, rfl, rfl, rfl, trivial⟩ ?_
    exact jd_wk (kk β g1 _ _ hn0 _ _ rfl hg1 hw2 hm2 hI ho2) (by omega) (by omega)
  · exact absurd rfl z3

set_option maxRecDepth 20000 in
set_option maxHeartbeats 2000000 in
theorem law_26 {G : jd_G} {β γ : ll_B} {κ : ll_K} {μ : ll_U} {h : jd_H} (hw : WC G β κ h) (hm : WM G γ κ μ h) (hI : ll_I κ) {o : Nat} {n : Int64} {sv : Value} (ho : WO o n sv h) {k c s : Nat} (hk : 5 * k + 5 ≤ jd_k G 7) (hL : jd_k G 7 ≤ 320) {Q : Option Value → jd_H → Prop} {X : String → jd_H → Prop} (kk : law_k G β γ o k c s Q X) : jd_W G mL_law 20 (c + 2000) (s + 100000) 1964 [some (.ref (jd_k G 6)), some (.ref (β 0 0)), some (.ref (γ 0 0)), some (.ref (o)), some (.int (nI (5 * k))), none, none] [] h Q X := by
  refine jd_aload_n dL_law_1964 rfl ?_
  refine jd_callV (As := []) (rest := []) (ct_X1_digest hw hI) (jd_rv (w_this hw) 0 rfl rfl) rfl q378 q379 q380 q80 q381 nX1_digest dL_law_1965 rfl rfl rfl (Nat.le_of_ble_eq_true rfl) ⟨(Nat.le_of_ble_eq_true rfl), (Nat.le_of_ble_eq_true rfl), by omega, by omega⟩ (fun rv0 hn0 hq0 => ?_) jd_nox
  obtain ⟨rfl, he0⟩ := hq0
  rw [he0]
  refine jd_aload_n dL_law_1968 rfl ?_
  refine jd_callV (As := []) (rest := [.long (digestV κ)]) (ct_X4_digest hm hI) (jd_rv (w_mthis hm) 9 rfl rfl) rfl q1970 q1971 q1972 q90 q1973 nX4_digest dL_law_1969 rfl rfl rfl (Nat.le_of_ble_eq_true rfl) ⟨(Nat.le_of_ble_eq_true rfl), (Nat.le_of_ble_eq_true rfl), by omega, by omega⟩ (fun rv1 hn1 hq1 => ?_) jd_nox
  obtain ⟨⟨w1, rfl, hv1, hx1⟩, ⟨g1, m1, hg1, hm2, ht1⟩, hf2⟩ := hq1
  rw [if_pos rfl] at hm2
  obtain rfl := hv1 rfl
  have hw2 := hw.of (fun j hj => hf2 j (Or.inl hj))
  have ho2 := (hf2 (40, 0) (Or.inr (by decide))).trans ho.at
  refine jd_lcmp dL_law_1972 ?_
  refine jd_if_eq (tgt := 1978) dL_law_1973 (by decide) (fun z3 => ?_) (fun z4 => ?_)
  · refine jd_lsub [some (.ref (jd_k G 6)), some (.ref (β 0 0)), some (.ref (γ 0 0)), some (.ref (o)), some (.int (nI (5 * k))), none, none] ⟨rfl, rfl, rfl, rfl, rfl, trivial⟩ ?_
    exact jd_wk (kk β g1 _ _ hn1 _ _ rfl hg1 hw2 hm2 hI ho2) (by omega) (by omega)
  · exact absurd lg_self z4
