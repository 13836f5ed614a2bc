/-! the law: its cases (printed by mk_c.py) -/
/-- the law's loop, behind a case -/
def law_k (G : jd_G) (β γ : ll_B) (o k c s : Nat) (Q : Option Value → jd_H → Prop) (X : String → jd_H → Prop) : Prop := ∀ (β' γ' : ll_B) (κ' : ll_K) (μ' : ll_U) (h' : jd_H) (n' : Int64) (sv' : Value), β' 0 0 = β 0 0 → γ' 0 0 = γ 0 0 → WC G β' κ' h' → WM G γ' κ' μ' h' → ll_I κ' → WO o n' sv' h' → jd_W G mL_law 20 c s 1978 [some (.ref (jd_k G 6)), some (.ref (β 0 0)), some (.ref (γ 0 0)), some (.ref o), some (.int (nI (5 * k))), none, none] [] h' Q X

set_option maxRecDepth 20000 in
set_option maxHeartbeats 2000000 in
theorem law_0 {G : jd_G} {β γ : ll_B} {κ : ll_K} {μ : ll_U} {h : jd_H} (hw : WC G β κ h) (hm : WM G γ κ μ h) (hI : ll_I κ) {o : Nat} {n : Int64} {sv : Value} (ho : WO o n sv h) {k c s : Nat} (hk : 5 * k + 5 ≤ jd_k G 7) (hL : jd_k G 7 ≤ 320) {Q : Option Value → jd_H → Prop} {X : String → jd_H → Prop} (kk : law_k G β γ o k c s Q X) : jd_W G mL_law 20 (c + 2000) (s + 100000) 164 [some (.ref (jd_k G 6)), some (.ref (β 0 0)), some (.ref (γ 0 0)), some (.ref (o)), some (.int (nI (5 * k))), none, none] [] h Q X := by
  refine jd_aload_n dL_law_164 rfl ?_
  refine jd_aload_n dL_law_165 rfl ?_
  refine jd_iload dL_law_166 rfl ?_
  refine jd_iconst (v := 1) dL_law_168 (by decide) ?_
  refine jd_iaddN (a := 5 * k) (b := 1) dL_law_169 ?_
  refine jd_sld (n := (5 * k + 1)) (by omega) hL dL_law_170 ?_
  refine jd_aload_n dL_law_171 rfl ?_
  refine jd_iload dL_law_172 rfl ?_
  refine jd_iconst (v := 2) dL_law_174 (by decide) ?_
  refine jd_iaddN (a := 5 * k) (b := 2) dL_law_175 ?_
  refine jd_sld (n := (5 * k + 2)) (by omega) hL dL_law_176 ?_
  refine jd_aload_n dL_law_177 rfl ?_
  refine jd_iload dL_law_178 rfl ?_
  refine jd_iconst (v := 3) dL_law_180 (by decide) ?_
  refine jd_iaddN (a := 5 * k) (b := 3) dL_law_181 ?_
  refine jd_sld (n := (5 * k + 3)) (by omega) hL dL_law_182 ?_
  refine jd_aload_n dL_law_183 rfl ?_
  refine jd_callSH (As := [.ref (β 0 0), .int ((jd_scr G ((5 * k + 1)))), .int ((jd_scr G ((5 * k + 2)))), .int ((jd_scr G ((5 * k + 3)))), .ref (o)]) (rest := []) (ct_X0_land hw hI ho (jd_scr G (5 * k + 1)) (jd_scr G (5 * k + 2)) (jd_scr G (5 * k + 3))) rfl q605 q606 q79 q607 nX0_land dL_law_184 rfl rfl (Nat.le_of_ble_eq_true rfl) ⟨(Nat.le_of_ble_eq_true rfl), (Nat.le_of_ble_eq_true rfl), by omega, by omega⟩ (fun rv0 hn0 hq0 => ?_) jd_nox
  obtain ⟨rfl, ⟨b1, hb1, hw1⟩, ⟨n1, ho1, hna1⟩, hf1⟩ := hq0
  have hm1 := hm.out hf1
  have hle := le_land (jd_scr G (5 * k + 1)) (jd_scr G (5 * k + 2)) (jd_scr G (5 * k + 3))
  refine jd_istore (ls' := [_, _, _, _, _, _, _]) dL_law_187 (Nat.le_of_ble_eq_true rfl) rfl rfl ?_
  refine jd_aload_n dL_law_189 rfl ?_
  refine jd_aload_n dL_law_190 rfl ?_
  refine jd_iload dL_law_191 rfl ?_
  refine jd_iconst (v := 1) dL_law_193 (by decide) ?_
  refine jd_iaddN (a := 5 * k) (b := 1) dL_law_194 ?_
  refine jd_sld (n := (5 * k + 1)) (by omega) hL dL_law_195 ?_
  refine jd_aload_n dL_law_196 rfl ?_
  refine jd_iload dL_law_197 rfl ?_
  refine jd_iconst (v := 2) dL_law_199 (by decide) ?_
  refine jd_iaddN (a := 5 * k) (b := 2) dL_law_200 ?_
  refine jd_sld (n := (5 * k + 2)) (by omega) hL dL_law_201 ?_
  refine jd_aload_n dL_law_202 rfl ?_
  refine jd_iload dL_law_203 rfl ?_
  refine jd_iconst (v := 3) dL_law_205 (by decide) ?_
  refine jd_iaddN (a := 5 * k) (b := 3) dL_law_206 ?_
  refine jd_sld (n := (5 * k + 3)) (by omega) hL dL_law_207 ?_
  refine jd_callV (As := [.int ((jd_scr G ((5 * k + 1)))), .int ((jd_scr G ((5 * k + 2)))), .int ((jd_scr G ((5 * k + 3))))]) (rest := []) (ct_X4_land hm1 hI (jd_scr G (5 * k + 1)) (jd_scr G (5 * k + 2)) (jd_scr G (5 * k + 3))) (jd_rv (w_mthis hm1) 9 rfl rfl) rfl q1510 q1511 q1512 q90 q1513 nX4_land dL_law_208 rfl rfl rfl (Nat.le_of_ble_eq_true rfl) ⟨(Nat.le_of_ble_eq_true rfl), (Nat.le_of_ble_eq_true rfl), by omega, by omega⟩ (fun rv1 hn1 hq1 => ?_) jd_nox
  obtain ⟨⟨w1, rfl, hv1, hx1⟩, ⟨g1, m1, hg1, hm2, ht1⟩, hf2⟩ := hq1
  obtain ⟨x1, rfl⟩ : ∃ x, w1 = Value.int x := by
    by_cases e : c_land (jd_scr G (5 * k + 1)) (jd_scr G (5 * k + 2)) (jd_scr G (5 * k + 3)) = 0
    · exact ⟨_, hv1 e⟩
    · exact hx1 e
  have hw2 := hw1.of (fun j hj => hf2 j (Or.inl hj))
  have ho2 := (hf2 (40, 0) (Or.inr (by decide))).trans ho1.at
  have hI2 : ll_I (if c_land (jd_scr G (5 * k + 1)) (jd_scr G (5 * k + 2)) (jd_scr G (5 * k + 3)) = 0 then k_land κ (tN (jd_scr G (5 * k + 1))) (jd_scr G (5 * k + 2)) (jd_scr G (5 * k + 3)) else κ) := by
    split
    · next e => exact P_land hI e
    · exact hI
  refine jd_istore (ls' := [_, _, _, _, _, _, _]) dL_law_211 (Nat.le_of_ble_eq_true rfl) rfl rfl ?_
  refine jd_aload_n dL_law_213 rfl ?_
  refine jd_pV (As := []) (rest := []) (show jd_Ct G mX4_thrown 0 0 0 [.ref (γ 0 0)] _ _ _ from by rw [← hg1]; exact ct_X4_thrown hm2) (jd_rv (show _ = some (γ 0 0, _) from hg1 ▸ w_mthis hm2) 9 rfl rfl) rfl q1506 q1507 q1508 q90 q1509 nX4_thrown dL_law_214 rfl rfl rfl (Nat.le_of_ble_eq_true rfl) ⟨(Nat.le_of_ble_eq_true rfl), (Nat.le_of_ble_eq_true rfl)⟩ ?_
  refine jd_top (w := .int (nI (c_land (jd_scr G (5 * k + 1)) (jd_scr G (5 * k + 2)) (jd_scr G (5 * k + 3))))) (congrArg Value.int ht1) ?_
  refine jd_iload dL_law_217 rfl ?_
  refine jd_ncmp_eq (a := (c_land (jd_scr G (5 * k + 1)) (jd_scr G (5 * k + 2)) (jd_scr G (5 * k + 3)))) (b := (c_land (jd_scr G (5 * k + 1)) (jd_scr G (5 * k + 2)) (jd_scr G (5 * k + 3)))) (tgt := 224) dL_law_219 (by decide) (by omega) (by omega) (fun z3 => ?_) (fun z4 => ?_)
  · refine jd_iload dL_law_224 rfl ?_
    refine jd_nif_ne (a := (c_land (jd_scr G (5 * k + 1)) (jd_scr G (5 * k + 2)) (jd_scr G (5 * k + 3)))) (tgt := 242) dL_law_226 (by decide) (by omega) (fun z5 => ?_) (fun z6 => ?_)
    · refine jd_goto (tgt := 1978) dL_law_242 (by decide) ?_
      refine jd_lsub [some (.ref (jd_k G 6)), some (.ref (β 0 0)), some (.ref (γ 0 0)), some (.ref (o)), some (.int (nI (5 * k))), none, none] ⟨rfl, rfl, rfl, rfl, rfl, trivial⟩ ?_
      exact jd_wk (kk b1 g1 _ _ hn1 _ _ hb1 hg1 hw2 hm2 hI2 ho2) (by omega) (by omega)
    · have hc0 : c_land (jd_scr G (5 * k + 1)) (jd_scr G (5 * k + 2)) (jd_scr G (5 * k + 3)) = 0 := z6
      have hx2 : x1 = _ := Value.int.inj (hv1 hc0)
      have he : n1 = x1.toInt64 := by rw [hna1 hc0, hx2]
      refine jd_aload_n dL_law_229 rfl ?_
      refine jd_getN in_X6 ho2 0 q598 dL_law_230 rfl (Nat.le_of_ble_eq_true rfl) rfl ?_
      refine jd_iload dL_law_233 rfl ?_
      refine jd_i2l dL_law_235 ?_
      refine jd_lcmp dL_law_236 ?_
      refine jd_if_eq (tgt := 242) dL_law_237 (by decide) (fun z7 => ?_) (fun z8 => ?_)
      · refine jd_goto (tgt := 1978) dL_law_242 (by decide) ?_
        refine jd_lsub [some (.ref (jd_k G 6)), some (.ref (β 0 0)), some (.ref (γ 0 0)), some (.ref (o)), some (.int (nI (5 * k))), none, none] ⟨rfl, rfl, rfl, rfl, rfl, trivial⟩ ?_
        exact jd_wk (kk b1 g1 _ _ hn1 _ _ hb1 hg1 hw2 hm2 hI2 ho2) (by omega) (by omega)
      · exact absurd (by rw [he]; exact lg_self) z8
  · exact absurd rfl z4

set_option maxRecDepth 20000 in
set_option maxHeartbeats 2000000 in
theorem law_1 {G : jd_G} {β γ : ll_B} {κ : ll_K} {μ : ll_U} {h : jd_H} (hw : WC G β κ h) (hm : WM G γ κ μ h) (hI : ll_I κ) {o : Nat} {n : Int64} {sv : Value} (ho : WO o n sv h) {k c s : Nat} (hk : 5 * k + 5 ≤ jd_k G 7) (hL : jd_k G 7 ≤ 320) {Q : Option Value → jd_H → Prop} {X : String → jd_H → Prop} (kk : law_k G β γ o k c s Q X) : jd_W G mL_law 20 (c + 2000) (s + 100000) 245 [some (.ref (jd_k G 6)), some (.ref (β 0 0)), some (.ref (γ 0 0)), some (.ref (o)), some (.int (nI (5 * k))), none, none] [] h Q X := by
  refine jd_aload_n dL_law_245 rfl ?_
  refine jd_aload_n dL_law_246 rfl ?_
  refine jd_iload dL_law_247 rfl ?_
  refine jd_iconst (v := 1) dL_law_249 (by decide) ?_
  refine jd_iaddN (a := 5 * k) (b := 1) dL_law_250 ?_
  refine jd_sld (n := (5 * k + 1)) (by omega) hL dL_law_251 ?_
  refine jd_aload_n dL_law_252 rfl ?_
  refine jd_iload dL_law_253 rfl ?_
  refine jd_iconst (v := 2) dL_law_255 (by decide) ?_
  refine jd_iaddN (a := 5 * k) (b := 2) dL_law_256 ?_
  refine jd_sld (n := (5 * k + 2)) (by omega) hL dL_law_257 ?_
  refine jd_aload_n dL_law_258 rfl ?_
  refine jd_iload dL_law_259 rfl ?_
  refine jd_iconst (v := 3) dL_law_261 (by decide) ?_
  refine jd_iaddN (a := 5 * k) (b := 3) dL_law_262 ?_
  refine jd_sld (n := (5 * k + 3)) (by omega) hL dL_law_263 ?_
  refine jd_aload_n dL_law_264 rfl ?_
  refine jd_callSH (As := [.ref (β 0 0), .int ((jd_scr G ((5 * k + 1)))), .int ((jd_scr G ((5 * k + 2)))), .int ((jd_scr G ((5 * k + 3)))), .ref (o)]) (rest := []) (ct_X0_trade hw hI ho (jd_scr G (5 * k + 1)) (jd_scr G (5 * k + 2)) (jd_scr G (5 * k + 3))) rfl q739 q740 q79 q741 nX0_trade dL_law_265 rfl rfl (Nat.le_of_ble_eq_true rfl) ⟨(Nat.le_of_ble_eq_true rfl), (Nat.le_of_ble_eq_true rfl), by omega, by omega⟩ (fun rv0 hn0 hq0 => ?_) jd_nox
  obtain ⟨rfl, ⟨b1, hb1, hw1⟩, ⟨n1, ho1, hna1⟩, hf1⟩ := hq0
  have hm1 := hm.out hf1
  have hle := le_trade κ (jd_scr G (5 * k + 1)) (jd_scr G (5 * k + 2)) (jd_scr G (5 * k + 3))
  refine jd_istore (ls' := [_, _, _, _, _, _, _]) dL_law_268 (Nat.le_of_ble_eq_true rfl) rfl rfl ?_
  refine jd_aload_n dL_law_270 rfl ?_
  refine jd_aload_n dL_law_271 rfl ?_
  refine jd_iload dL_law_272 rfl ?_
  refine jd_iconst (v := 1) dL_law_274 (by decide) ?_
  refine jd_iaddN (a := 5 * k) (b := 1) dL_law_275 ?_
  refine jd_sld (n := (5 * k + 1)) (by omega) hL dL_law_276 ?_
  refine jd_aload_n dL_law_277 rfl ?_
  refine jd_iload dL_law_278 rfl ?_
  refine jd_iconst (v := 2) dL_law_280 (by decide) ?_
  refine jd_iaddN (a := 5 * k) (b := 2) dL_law_281 ?_
  refine jd_sld (n := (5 * k + 2)) (by omega) hL dL_law_282 ?_
  refine jd_aload_n dL_law_283 rfl ?_
  refine jd_iload dL_law_284 rfl ?_
  refine jd_iconst (v := 3) dL_law_286 (by decide) ?_
  refine jd_iaddN (a := 5 * k) (b := 3) dL_law_287 ?_
  refine jd_sld (n := (5 * k + 3)) (by omega) hL dL_law_288 ?_
  refine jd_callV (As := [.int ((jd_scr G ((5 * k + 1)))), .int ((jd_scr G ((5 * k + 2)))), .int ((jd_scr G ((5 * k + 3))))]) (rest := []) (ct_X4_trade hm1 hI (jd_scr G (5 * k + 1)) (jd_scr G (5 * k + 2)) (jd_scr G (5 * k + 3))) (jd_rv (w_mthis hm1) 9 rfl rfl) rfl q1525 q1526 q1527 q90 q1528 nX4_trade dL_law_289 rfl rfl rfl (Nat.le_of_ble_eq_true rfl) ⟨(Nat.le_of_ble_eq_true rfl), (Nat.le_of_ble_eq_true rfl), by omega, by omega⟩ (fun rv1 hn1 hq1 => ?_) jd_nox
  obtain ⟨⟨w1, rfl, hv1, hx1⟩, ⟨g1, m1, hg1, hm2, ht1⟩, hf2⟩ := hq1
  obtain ⟨x1, rfl⟩ : ∃ x, w1 = Value.int x := by
    by_cases e : c_trade κ (jd_scr G (5 * k + 1)) (jd_scr G (5 * k + 2)) (jd_scr G (5 * k + 3)) = 0
    · exact ⟨_, hv1 e⟩
    · exact hx1 e
  have hw2 := hw1.of (fun j hj => hf2 j (Or.inl hj))
  have ho2 := (hf2 (40, 0) (Or.inr (by decide))).trans ho1.at
  have hI2 : ll_I (if c_trade κ (jd_scr G (5 * k + 1)) (jd_scr G (5 * k + 2)) (jd_scr G (5 * k + 3)) = 0 then k_trade κ (tN (jd_scr G (5 * k + 1))) (tN (jd_scr G (5 * k + 2))) (jd_scr G (5 * k + 3)) else κ) := by
    split
    · next e => exact P_trade hI e
    · exact hI
  refine jd_istore (ls' := [_, _, _, _, _, _, _]) dL_law_292 (Nat.le_of_ble_eq_true rfl) rfl rfl ?_
  refine jd_aload_n dL_law_294 rfl ?_
  refine jd_pV (As := []) (rest := []) (show jd_Ct G mX4_thrown 0 0 0 [.ref (γ 0 0)] _ _ _ from by rw [← hg1]; exact ct_X4_thrown hm2) (jd_rv (show _ = some (γ 0 0, _) from hg1 ▸ w_mthis hm2) 9 rfl rfl) rfl q1506 q1507 q1508 q90 q1509 nX4_thrown dL_law_295 rfl rfl rfl (Nat.le_of_ble_eq_true rfl) ⟨(Nat.le_of_ble_eq_true rfl), (Nat.le_of_ble_eq_true rfl)⟩ ?_
  refine jd_top (w := .int (nI (c_trade κ (jd_scr G (5 * k + 1)) (jd_scr G (5 * k + 2)) (jd_scr G (5 * k + 3))))) (congrArg Value.int ht1) ?_
  refine jd_iload dL_law_298 rfl ?_
  refine jd_ncmp_eq (a := (c_trade κ (jd_scr G (5 * k + 1)) (jd_scr G (5 * k + 2)) (jd_scr G (5 * k + 3)))) (b := (c_trade κ (jd_scr G (5 * k + 1)) (jd_scr G (5 * k + 2)) (jd_scr G (5 * k + 3)))) (tgt := 305) dL_law_300 (by decide) (by omega) (by omega) (fun z3 => ?_) (fun z4 => ?_)
  · refine jd_iload dL_law_305 rfl ?_
    refine jd_nif_ne (a := (c_trade κ (jd_scr G (5 * k + 1)) (jd_scr G (5 * k + 2)) (jd_scr G (5 * k + 3)))) (tgt := 323) dL_law_307 (by decide) (by omega) (fun z5 => ?_) (fun z6 => ?_)
    · refine jd_goto (tgt := 1978) dL_law_323 (by decide) ?_
      refine jd_lsub [some (.ref (jd_k G 6)), some (.ref (β 0 0)), some (.ref (γ 0 0)), some (.ref (o)), some (.int (nI (5 * k))), none, none] ⟨rfl, rfl, rfl, rfl, rfl, trivial⟩ ?_
      exact jd_wk (kk b1 g1 _ _ hn1 _ _ hb1 hg1 hw2 hm2 hI2 ho2) (by omega) (by omega)
    · have hc0 : c_trade κ (jd_scr G (5 * k + 1)) (jd_scr G (5 * k + 2)) (jd_scr G (5 * k + 3)) = 0 := z6
      have hx2 : x1 = _ := Value.int.inj (hv1 hc0)
      have he : n1 = x1.toInt64 := by rw [hna1 hc0, hx2]
      refine jd_aload_n dL_law_310 rfl ?_
      refine jd_getN in_X6 ho2 0 q598 dL_law_311 rfl (Nat.le_of_ble_eq_true rfl) rfl ?_
      refine jd_iload dL_law_314 rfl ?_
      refine jd_i2l dL_law_316 ?_
      refine jd_lcmp dL_law_317 ?_
      refine jd_if_eq (tgt := 323) dL_law_318 (by decide) (fun z7 => ?_) (fun z8 => ?_)
      · refine jd_goto (tgt := 1978) dL_law_323 (by decide) ?_
        refine jd_lsub [some (.ref (jd_k G 6)), some (.ref (β 0 0)), some (.ref (γ 0 0)), some (.ref (o)), some (.int (nI (5 * k))), none, none] ⟨rfl, rfl, rfl, rfl, rfl, trivial⟩ ?_
        exact jd_wk (kk b1 g1 _ _ hn1 _ _ hb1 hg1 hw2 hm2 hI2 ho2) (by omega) (by omega)
      · exact absurd (by rw [he]; exact lg_self) z8
  · exact absurd rfl z4

set_option maxRecDepth 20000 in
set_option maxHeartbeats 2000000 in
theorem law_2 {G : jd_G} {β γ : ll_B} {κ : ll_K} {μ : ll_U} {h : jd_H} (hw : WC G β κ h) (hm : WM G γ κ μ h) (hI : ll_I κ) {o : Nat} {n : Int64} {sv : Value} (ho : WO o n sv h) {k c s : Nat} (hk : 5 * k + 5 ≤ jd_k G 7) (hL : jd_k G 7 ≤ 320) {Q : Option Value → jd_H → Prop} {X : String → jd_H → Prop} (kk : law_k G β γ o k c s Q X) : jd_W G mL_law 20 (c + 2000) (s + 100000) 326 [some (.ref (jd_k G 6)), some (.ref (β 0 0)), some (.ref (γ 0 0)), some (.ref (o)), some (.int (nI (5 * k))), none, none] [] h Q X := by
  refine jd_aload_n dL_law_326 rfl ?_
  refine jd_aload_n dL_law_327 rfl ?_
  refine jd_iload dL_law_328 rfl ?_
  refine jd_iconst (v := 1) dL_law_330 (by decide) ?_
  refine jd_iaddN (a := 5 * k) (b := 1) dL_law_331 ?_
  refine jd_sld (n := (5 * k + 1)) (by omega) hL dL_law_332 ?_
  refine jd_aload_n dL_law_333 rfl ?_
  refine jd_iload dL_law_334 rfl ?_
  refine jd_iconst (v := 2) dL_law_336 (by decide) ?_
  refine jd_iaddN (a := 5 * k) (b := 2) dL_law_337 ?_
  refine jd_sld (n := (5 * k + 2)) (by omega) hL dL_law_338 ?_
  refine jd_aload_n dL_law_339 rfl ?_
  refine jd_iload dL_law_340 rfl ?_
  refine jd_iconst (v := 3) dL_law_342 (by decide) ?_
  refine jd_iaddN (a := 5 * k) (b := 3) dL_law_343 ?_
  refine jd_sld (n := (5 * k + 3)) (by omega) hL dL_law_344 ?_
  refine jd_aload_n dL_law_345 rfl ?_
  refine jd_iload dL_law_346 rfl ?_
  refine jd_iconst (v := 4) dL_law_348 (by decide) ?_
  refine jd_iaddN (a := 5 * k) (b := 4) dL_law_349 ?_
  refine jd_sld (n := (5 * k + 4)) (by omega) hL dL_law_350 ?_
  refine jd_aload_n dL_law_351 rfl ?_
  refine jd_callSH (As := [.ref (β 0 0), .int ((jd_scr G ((5 * k + 1)))), .int ((jd_scr G ((5 * k + 2)))), .int ((jd_scr G ((5 * k + 3)))), .int ((jd_scr G ((5 * k + 4)))), .ref (o)]) (rest := []) (ct_X0_gate hw hI ho (jd_scr G (5 * k + 1)) (jd_scr G (5 * k + 2)) (jd_scr G (5 * k + 3)) (jd_scr G (5 * k + 4))) rfl q765 q766 q79 q767 nX0_gate dL_law_352 rfl rfl (Nat.le_of_ble_eq_true rfl) ⟨(Nat.le_of_ble_eq_true rfl), (Nat.le_of_ble_eq_true rfl), by omega, by omega⟩ (fun rv0 hn0 hq0 => ?_) jd_nox
  obtain ⟨rfl, ⟨b1, hb1, hw1⟩, ⟨n1, ho1, hna1⟩, hf1⟩ := hq0
  have hm1 := hm.out hf1
  have hle := le_gate κ (jd_scr G (5 * k + 1)) (jd_scr G (5 * k + 2)) (jd_scr G (5 * k + 3)) (jd_scr G (5 * k + 4))
  refine jd_istore (ls' := [_, _, _, _, _, _, _]) dL_law_355 (Nat.le_of_ble_eq_true rfl) rfl rfl ?_
  refine jd_aload_n dL_law_357 rfl ?_
  refine jd_aload_n dL_law_358 rfl ?_
  refine jd_iload dL_law_359 rfl ?_
  refine jd_iconst (v := 1) dL_law_361 (by decide) ?_
  refine jd_iaddN (a := 5 * k) (b := 1) dL_law_362 ?_
  refine jd_sld (n := (5 * k + 1)) (by omega) hL dL_law_363 ?_
  refine jd_aload_n dL_law_364 rfl ?_
  refine jd_iload dL_law_365 rfl ?_
  refine jd_iconst (v := 2) dL_law_367 (by decide) ?_
  refine jd_iaddN (a := 5 * k) (b := 2) dL_law_368 ?_
  refine jd_sld (n := (5 * k + 2)) (by omega) hL dL_law_369 ?_
  refine jd_aload_n dL_law_370 rfl ?_
  refine jd_iload dL_law_371 rfl ?_
  refine jd_iconst (v := 3) dL_law_373 (by decide) ?_
  refine jd_iaddN (a := 5 * k) (b := 3) dL_law_374 ?_
  refine jd_sld (n := (5 * k + 3)) (by omega) hL dL_law_375 ?_
  refine jd_aload_n dL_law_376 rfl ?_
  refine jd_iload dL_law_377 rfl ?_
  refine jd_iconst (v := 4) dL_law_379 (by decide) ?_
  refine jd_iaddN (a := 5 * k) (b := 4) dL_law_380 ?_
  refine jd_sld (n := (5 * k + 4)) (by omega) hL dL_law_381 ?_
  refine jd_callV (As := [.int ((jd_scr G ((5 * k + 1)))), .int ((jd_scr G ((5 * k + 2)))), .int ((jd_scr G ((5 * k + 3)))), .int ((jd_scr G ((5 * k + 4))))]) (rest := []) (ct_X4_gate hm1 hI (jd_scr G (5 * k + 1)) (jd_scr G (5 * k + 2)) (jd_scr G (5 * k + 3)) (jd_scr G (5 * k + 4))) (jd_rv (w_mthis hm1) 9 rfl rfl) rfl q1529 q1530 q1531 q90 q1532 nX4_gate dL_law_382 rfl rfl rfl (Nat.le_of_ble_eq_true rfl) ⟨(Nat.le_of_ble_eq_true rfl), (Nat.le_of_ble_eq_true rfl), by omega, by omega⟩ (fun rv1 hn1 hq1 => ?_) jd_nox
  obtain ⟨⟨w1, rfl, hv1, hx1⟩, ⟨g1, m1, hg1, hm2, ht1⟩, hf2⟩ := hq1
  obtain ⟨x1, rfl⟩ : ∃ x, w1 = Value.int x := by
    by_cases e : c_gate κ (jd_scr G (5 * k + 1)) (jd_scr G (5 * k + 2)) (jd_scr G (5 * k + 3)) (jd_scr G (5 * k + 4)) = 0
    · exact ⟨_, hv1 e⟩
    · exact hx1 e
  have hw2 := hw1.of (fun j hj => hf2 j (Or.inl hj))
  have ho2 := (hf2 (40, 0) (Or.inr (by decide))).trans ho1.at
  have hI2 : ll_I (if c_gate κ (jd_scr G (5 * k + 1)) (jd_scr G (5 * k + 2)) (jd_scr G (5 * k + 3)) (jd_scr G (5 * k + 4)) = 0 then k_addG κ (tN (jd_scr G (5 * k + 1))) (tN (jd_scr G (5 * k + 2))) (jd_scr G (5 * k + 3)) (jd_scr G (5 * k + 4)) else κ) := by
    split
    · next e => exact P_gate hI e
    · exact hI
  refine jd_istore (ls' := [_, _, _, _, _, _, _]) dL_law_385 (Nat.le_of_ble_eq_true rfl) rfl rfl ?_
  refine jd_aload_n dL_law_387 rfl ?_
  refine jd_pV (As := []) (rest := []) (show jd_Ct G mX4_thrown 0 0 0 [.ref (γ 0 0)] _ _ _ from by rw [← hg1]; exact ct_X4_thrown hm2) (jd_rv (show _ = some (γ 0 0, _) from hg1 ▸ w_mthis hm2) 9 rfl rfl) rfl q1506 q1507 q1508 q90 q1509 nX4_thrown dL_law_388 rfl rfl rfl (Nat.le_of_ble_eq_true rfl) ⟨(Nat.le_of_ble_eq_true rfl), (Nat.le_of_ble_eq_true rfl)⟩ ?_
  refine jd_top (w := .int (nI (c_gate κ (jd_scr G (5 * k + 1)) (jd_scr G (5 * k + 2)) (jd_scr G (5 * k + 3)) (jd_scr G (5 * k + 4))))) (congrArg Value.int ht1) ?_
  refine jd_iload dL_law_391 rfl ?_
  refine jd_ncmp_eq (a := (c_gate κ (jd_scr G (5 * k + 1)) (jd_scr G (5 * k + 2)) (jd_scr G (5 * k + 3)) (jd_scr G (5 * k + 4)))) (b := (c_gate κ (jd_scr G (5 * k + 1)) (jd_scr G (5 * k + 2)) (jd_scr G (5 * k + 3)) (jd_scr G (5 * k + 4)))) (tgt := 398) dL_law_393 (by decide) (by omega) (by omega) (fun z3 => ?_) (fun z4 => ?_)
  · refine jd_iload dL_law_398 rfl ?_
    refine jd_nif_ne (a := (c_gate κ (jd_scr G (5 * k + 1)) (jd_scr G (5 * k + 2)) (jd_scr G (5 * k + 3)) (jd_scr G (5 * k + 4)))) (tgt := 416) dL_law_400 (by decide) (by omega) (fun z5 => ?_) (fun z6 => ?_)
    · refine jd_goto (tgt := 1978) dL_law_416 (by decide) ?_
      refine jd_lsub [some (.ref (jd_k G 6)), some (.ref (β 0 0)), some (.ref (γ 0 0)), some (.ref (o)), some (.int (nI (5 * k))), none, none] ⟨rfl, rfl, rfl, rfl, rfl, trivial⟩ ?_
      exact jd_wk (kk b1 g1 _ _ hn1 _ _ hb1 hg1 hw2 hm2 hI2 ho2) (by omega) (by omega)
    · have hc0 : c_gate κ (jd_scr G (5 * k + 1)) (jd_scr G (5 * k + 2)) (jd_scr G (5 * k + 3)) (jd_scr G (5 * k + 4)) = 0 := z6
      have hx2 : x1 = _ := Value.int.inj (hv1 hc0)
      have he : n1 = x1.toInt64 := by rw [hna1 hc0, hx2]
      refine jd_aload_n dL_law_403 rfl ?_
      refine jd_getN in_X6 ho2 0 q598 dL_law_404 rfl (Nat.le_of_ble_eq_true rfl) rfl ?_
      refine jd_iload dL_law_407 rfl ?_
      refine jd_i2l dL_law_409 ?_
      refine jd_lcmp dL_law_410 ?_
      refine jd_if_eq (tgt := 416) dL_law_411 (by decide) (fun z7 => ?_) (fun z8 => ?_)
      · refine jd_goto (tgt := 1978) dL_law_416 (by decide) ?_
        refine jd_lsub [some (.ref (jd_k G 6)), some (.ref (β 0 0)), some (.ref (γ 0 0)), some (.ref (o)), some (.int (nI (5 * k))), none, none] ⟨rfl, rfl, rfl, rfl, rfl, trivial⟩ ?_
        exact jd_wk (kk b1 g1 _ _ hn1 _ _ hb1 hg1 hw2 hm2 hI2 ho2) (by omega) (by omega)
      · exact absurd (by rw [he]; exact lg_self) z8
  · exact absurd rfl z4

set_option maxRecDepth 20000 in
set_option maxHeartbeats 2000000 in
theorem law_3 {G : jd_G} {β γ : ll_B} {κ : ll_K} {μ : ll_U} {h : jd_H} (hw : WC G β κ h) (hm : WM G γ κ μ h) (hI : ll_I κ) {o : Nat} {n : Int64} {sv : Value} (ho : WO o n sv h) {k c s : Nat} (hk : 5 * k + 5 ≤ jd_k G 7) (hL : jd_k G 7 ≤ 320) {Q : Option Value → jd_H → Prop} {X : String → jd_H → Prop} (kk : law_k G β γ o k c s Q X) : jd_W G mL_law 20 (c + 2000) (s + 100000) 419 [some (.ref (jd_k G 6)), some (.ref (β 0 0)), some (.ref (γ 0 0)), some (.ref (o)), some (.int (nI (5 * k))), none, none] [] h Q X := by
  refine jd_aload_n dL_law_419 rfl ?_
  refine jd_aload_n dL_law_420 rfl ?_
  refine jd_iload dL_law_421 rfl ?_
  refine jd_iconst (v := 1) dL_law_423 (by decide) ?_
  refine jd_iaddN (a := 5 * k) (b := 1) dL_law_424 ?_
  refine jd_sld (n := (5 * k + 1)) (by omega) hL dL_law_425 ?_
  refine jd_aload_n dL_law_426 rfl ?_
  refine jd_iload dL_law_427 rfl ?_
  refine jd_iconst (v := 2) dL_law_429 (by decide) ?_
  refine jd_iaddN (a := 5 * k) (b := 2) dL_law_430 ?_
  refine jd_sld (n := (5 * k + 2)) (by omega) hL dL_law_431 ?_
  refine jd_aload_n dL_law_432 rfl ?_
  refine jd_callSH (As := [.ref (β 0 0), .int ((jd_scr G ((5 * k + 1)))), .int ((jd_scr G ((5 * k + 2)))), .ref (o)]) (rest := []) (ct_X0_odds hw hI ho (jd_scr G (5 * k + 1)) (jd_scr G (5 * k + 2))) rfl q811 q812 q79 q813 nX0_odds dL_law_433 rfl rfl (Nat.le_of_ble_eq_true rfl) ⟨(Nat.le_of_ble_eq_true rfl), (Nat.le_of_ble_eq_true rfl), by omega, by omega⟩ (fun rv0 hn0 hq0 => ?_) jd_nox
  obtain ⟨rfl, ⟨b1, hb1, hw1⟩, ⟨n1, ho1, hna1⟩, hf1⟩ := hq0
  have hm1 := hm.out hf1
  have hle := le_odds κ (jd_scr G (5 * k + 1)) (jd_scr G (5 * k + 2))
  refine jd_istore (ls' := [_, _, _, _, _, _, _]) dL_law_436 (Nat.le_of_ble_eq_true rfl) rfl rfl ?_
  refine jd_aload_n dL_law_438 rfl ?_
  refine jd_aload_n dL_law_439 rfl ?_
  refine jd_iload dL_law_440 rfl ?_
  refine jd_iconst (v := 1) dL_law_442 (by decide) ?_
  refine jd_iaddN (a := 5 * k) (b := 1) dL_law_443 ?_
  refine jd_sld (n := (5 * k + 1)) (by omega) hL dL_law_444 ?_
  refine jd_aload_n dL_law_445 rfl ?_
  refine jd_iload dL_law_446 rfl ?_
  refine jd_iconst (v := 2) dL_law_448 (by decide) ?_
  refine jd_iaddN (a := 5 * k) (b := 2) dL_law_449 ?_
  refine jd_sld (n := (5 * k + 2)) (by omega) hL dL_law_450 ?_
  refine jd_callV (As := [.int ((jd_scr G ((5 * k + 1)))), .int ((jd_scr G ((5 * k + 2))))]) (rest := []) (ct_X4_odds hm1 hI (jd_scr G (5 * k + 1)) (jd_scr G (5 * k + 2))) (jd_rv (w_mthis hm1) 9 rfl rfl) rfl q1576 q1577 q1578 q90 q1579 nX4_odds dL_law_451 rfl rfl rfl (Nat.le_of_ble_eq_true rfl) ⟨(Nat.le_of_ble_eq_true rfl), (Nat.le_of_ble_eq_true rfl), by omega, by omega⟩ (fun rv1 hn1 hq1 => ?_) jd_nox
  obtain ⟨⟨w1, rfl, hv1, hx1⟩, ⟨g1, m1, hg1, hm2, ht1⟩, hf2⟩ := hq1
  obtain ⟨x1, rfl⟩ : ∃ x, w1 = Value.int x := by
    by_cases e : c_odds κ (jd_scr G (5 * k + 1)) (jd_scr G (5 * k + 2)) = 0
    · exact ⟨_, hv1 e⟩
    · exact hx1 e
  have hw2 := hw1.of (fun j hj => hf2 j (Or.inl hj))
  have ho2 := (hf2 (40, 0) (Or.inr (by decide))).trans ho1.at
  have hI2 : ll_I (if c_odds κ (jd_scr G (5 * k + 1)) (jd_scr G (5 * k + 2)) = 0 then ll_sz κ 9 (tN (jd_scr G (5 * k + 1))) (jd_scr G (5 * k + 2)) else κ) := by
    split
    · next e => exact P_odds hI e
    · exact hI
  refine jd_istore (ls' := [_, _, _, _, _, _, _]) dL_law_454 (Nat.le_of_ble_eq_true rfl) rfl rfl ?_
  refine jd_aload_n dL_law_456 rfl ?_
  refine jd_pV (As := []) (rest := []) (show jd_Ct G mX4_thrown 0 0 0 [.ref (γ 0 0)] _ _ _ from by rw [← hg1]; exact ct_X4_thrown hm2) (jd_rv (show _ = some (γ 0 0, _) from hg1 ▸ w_mthis hm2) 9 rfl rfl) rfl q1506 q1507 q1508 q90 q1509 nX4_thrown dL_law_457 rfl rfl rfl (Nat.le_of_ble_eq_true rfl) ⟨(Nat.le_of_ble_eq_true rfl), (Nat.le_of_ble_eq_true rfl)⟩ ?_
  refine jd_top (w := .int (nI (c_odds κ (jd_scr G (5 * k + 1)) (jd_scr G (5 * k + 2))))) (congrArg Value.int ht1) ?_
  refine jd_iload dL_law_460 rfl ?_
  refine jd_ncmp_eq (a := (c_odds κ (jd_scr G (5 * k + 1)) (jd_scr G (5 * k + 2)))) (b := (c_odds κ (jd_scr G (5 * k + 1)) (jd_scr G (5 * k + 2)))) (tgt := 467) dL_law_462 (by decide) (by omega) (by omega) (fun z3 => ?_) (fun z4 => ?_)
  · refine jd_iload dL_law_467 rfl ?_
    refine jd_nif_ne (a := (c_odds κ (jd_scr G (5 * k + 1)) (jd_scr G (5 * k + 2)))) (tgt := 485) dL_law_469 (by decide) (by omega) (fun z5 => ?_) (fun z6 => ?_)
    · refine jd_goto (tgt := 1978) dL_law_485 (by decide) ?_
      refine jd_lsub [some (.ref (jd_k G 6)), some (.ref (β 0 0)), some (.ref (γ 0 0)), some (.ref (o)), some (.int (nI (5 * k))), none, none] ⟨rfl, rfl, rfl, rfl, rfl, trivial⟩ ?_
      exact jd_wk (kk b1 g1 _ _ hn1 _ _ hb1 hg1 hw2 hm2 hI2 ho2) (by omega) (by omega)
    · have hc0 : c_odds κ (jd_scr G (5 * k + 1)) (jd_scr G (5 * k + 2)) = 0 := z6
      have hx2 : x1 = _ := Value.int.inj (hv1 hc0)
      have he : n1 = x1.toInt64 := by rw [hna1 hc0, hx2]
      refine jd_aload_n dL_law_472 rfl ?_
      refine jd_getN in_X6 ho2 0 q598 dL_law_473 rfl (Nat.le_of_ble_eq_true rfl) rfl ?_
      refine jd_iload dL_law_476 rfl ?_
      refine jd_i2l dL_law_478 ?_
      refine jd_lcmp dL_law_479 ?_
      refine jd_if_eq (tgt := 485) dL_law_480 (by decide) (fun z7 => ?_) (fun z8 => ?_)
      · refine jd_goto (tgt := 1978) dL_law_485 (by decide) ?_
        refine jd_lsub [some (.ref (jd_k G 6)), some (.ref (β 0 0)), some (.ref (γ 0 0)), some (.ref (o)), some (.int (nI (5 * k))), none, none] ⟨rfl, rfl, rfl, rfl, rfl, trivial⟩ ?_
        exact jd_wk (kk b1 g1 _ _ hn1 _ _ hb1 hg1 hw2 hm2 hI2 ho2) (by omega) (by omega)
      · exact absurd (by rw [he]; exact lg_self) z8
  · exact absurd rfl z4

set_option maxRecDepth 20000 in
set_option maxHeartbeats 2000000 in
theorem law_4 {G : jd_G} {β γ : ll_B} {κ : ll_K} {μ : ll_U} {h : jd_H} (hw : WC G β κ h) (hm : WM G γ κ μ h) (hI : ll_I κ) {o : Nat} {n : Int64} {sv : Value} (ho : WO o n sv h) {k c s : Nat} (hk : 5 * k + 5 ≤ jd_k G 7) (hL : jd_k G 7 ≤ 320) {Q : Option Value → jd_H → Prop} {X : String → jd_H → Prop} (kk : law_k G β γ o k c s Q X) : jd_W G mL_law 20 (c + 2000) (s + 100000) 488 [some (.ref (jd_k G 6)), some (.ref (β 0 0)), some (.ref (γ 0 0)), some (.ref (o)), some (.int (nI (5 * k))), none, none] [] h Q X := by
  refine jd_aload_n dL_law_488 rfl ?_
  refine jd_aload_n dL_law_489 rfl ?_
  refine jd_iload dL_law_490 rfl ?_
  refine jd_iconst (v := 1) dL_law_492 (by decide) ?_
  refine jd_iaddN (a := 5 * k) (b := 1) dL_law_493 ?_
  refine jd_sld (n := (5 * k + 1)) (by omega) hL dL_law_494 ?_
  refine jd_aload_n dL_law_495 rfl ?_
  refine jd_callSH (As := [.ref (β 0 0), .int ((jd_scr G ((5 * k + 1)))), .ref (o)]) (rest := []) (ct_X0_relieve hw hI ho (jd_scr G (5 * k + 1))) rfl q822 q823 q79 q824 nX0_relieve dL_law_496 rfl rfl (Nat.le_of_ble_eq_true rfl) ⟨(Nat.le_of_ble_eq_true rfl), (Nat.le_of_ble_eq_true rfl), by omega, by omega⟩ (fun rv0 hn0 hq0 => ?_) jd_nox
  obtain ⟨rfl, ⟨b1, hb1, hw1⟩, ⟨n1, ho1, hna1⟩, hf1⟩ := hq0
  have hm1 := hm.out hf1
  have hle := le_gate1 κ (jd_scr G (5 * k + 1))
  refine jd_istore (ls' := [_, _, _, _, _, _, _]) dL_law_499 (Nat.le_of_ble_eq_true rfl) rfl rfl ?_
  refine jd_aload_n dL_law_501 rfl ?_
  refine jd_aload_n dL_law_502 rfl ?_
  refine jd_iload dL_law_503 rfl ?_
  refine jd_iconst (v := 1) dL_law_505 (by decide) ?_
  refine jd_iaddN (a := 5 * k) (b := 1) dL_law_506 ?_
  refine jd_sld (n := (5 * k + 1)) (by omega) hL dL_law_507 ?_
  refine jd_callV (As := [.int ((jd_scr G ((5 * k + 1))))]) (rest := []) (ct_X4_relieve hm1 hI (jd_scr G (5 * k + 1))) (jd_rv (w_mthis hm1) 9 rfl rfl) rfl q1585 q1586 q1587 q90 q1588 nX4_relieve dL_law_508 rfl rfl rfl (Nat.le_of_ble_eq_true rfl) ⟨(Nat.le_of_ble_eq_true rfl), (Nat.le_of_ble_eq_true rfl), by omega, by omega⟩ (fun rv1 hn1 hq1 => ?_) jd_nox
  obtain ⟨⟨w1, rfl, hv1, hx1⟩, ⟨g1, m1, hg1, hm2, ht1⟩, hf2⟩ := hq1
  obtain ⟨x1, rfl⟩ : ∃ x, w1 = Value.int x := by
    by_cases e : c_gate1 κ (jd_scr G (5 * k + 1)) = 0
    · exact ⟨_, hv1 e⟩
    · exact hx1 e
  have hw2 := hw1.of (fun j hj => hf2 j (Or.inl hj))
  have ho2 := (hf2 (40, 0) (Or.inr (by decide))).trans ho1.at
  have hI2 : ll_I (if c_gate1 κ (jd_scr G (5 * k + 1)) = 0 then ll_sz κ 10 (tN (jd_scr G (5 * k + 1))) 0 else κ) := by
    split
    · next e => exact P_relieve hI e
    · exact hI
  refine jd_istore (ls' := [_, _, _, _, _, _, _]) dL_law_511 (Nat.le_of_ble_eq_true rfl) rfl rfl ?_
  refine jd_aload_n dL_law_513 rfl ?_
  refine jd_pV (As := []) (rest := []) (show jd_Ct G mX4_thrown 0 0 0 [.ref (γ 0 0)] _ _ _ from by rw [← hg1]; exact ct_X4_thrown hm2) (jd_rv (show _ = some (γ 0 0, _) from hg1 ▸ w_mthis hm2) 9 rfl rfl) rfl q1506 q1507 q1508 q90 q1509 nX4_thrown dL_law_514 rfl rfl rfl (Nat.le_of_ble_eq_true rfl) ⟨(Nat.le_of_ble_eq_true rfl), (Nat.le_of_ble_eq_true rfl)⟩ ?_
  refine jd_top (w := .int (nI (c_gate1 κ (jd_scr G (5 * k + 1))))) (congrArg Value.int ht1) ?_
  refine jd_iload dL_law_517 rfl ?_
  refine jd_ncmp_eq (a := (c_gate1 κ (jd_scr G (5 * k + 1)))) (b := (c_gate1 κ (jd_scr G (5 * k + 1)))) (tgt := 524) dL_law_519 (by decide) (by omega) (by omega) (fun z3 => ?_) (fun z4 => ?_)
  · refine jd_iload dL_law_524 rfl ?_
    refine jd_nif_ne (a := (c_gate1 κ (jd_scr G (5 * k + 1)))) (tgt := 542) dL_law_526 (by decide) (by omega) (fun z5 => ?_) (fun z6 => ?_)
    · refine jd_goto (tgt := 1978) dL_law_542 (by decide) ?_
      refine jd_lsub [some (.ref (jd_k G 6)), some (.ref (β 0 0)), some (.ref (γ 0 0)), some (.ref (o)), some (.int (nI (5 * k))), none, none] ⟨rfl, rfl, rfl, rfl, rfl, trivial⟩ ?_
      exact jd_wk (kk b1 g1 _ _ hn1 _ _ hb1 hg1 hw2 hm2 hI2 ho2) (by omega) (by omega)
    · have hc0 : c_gate1 κ (jd_scr G (5 * k + 1)) = 0 := z6
      have hx2 : x1 = _ := Value.int.inj (hv1 hc0)
      have he : n1 = x1.toInt64 := by rw [hna1 hc0, hx2]
      refine jd_aload_n dL_law_529 rfl ?_
      refine jd_getN in_X6 ho2 0 q598 dL_law_530 rfl (Nat.le_of_ble_eq_true rfl) rfl ?_
      refine jd_iload dL_law_533 rfl ?_
      refine jd_i2l dL_law_535 ?_
      refine jd_lcmp dL_law_536 ?_
      refine jd_if_eq (tgt := 542) dL_law_537 (by decide) (fun z7 => ?_) (fun z8 => ?_)
      · refine jd_goto (tgt := 1978) dL_law_542 (by decide) ?_
        refine jd_lsub [some (.ref (jd_k G 6)), some (.ref (β 0 0)), some (.ref (γ 0 0)), some (.ref (o)), some (.int (nI (5 * k))), none, none] ⟨rfl, rfl, rfl, rfl, rfl, trivial⟩ ?_
        exact jd_wk (kk b1 g1 _ _ hn1 _ _ hb1 hg1 hw2 hm2 hI2 ho2) (by omega) (by omega)
      · exact absurd (by rw [he]; exact lg_self) z8
  · exact absurd rfl z4

set_option maxRecDepth 20000 in
set_option maxHeartbeats 2000000 in
theorem law_5 {G : jd_G} {β γ : ll_B} {κ : ll_K} {μ : ll_U} {h : jd_H} (hw : WC G β κ h) (hm : WM G γ κ μ h) (hI : ll_I κ) {o : Nat} {n : Int64} {sv : Value} (ho : WO o n sv h) {k c s : Nat} (hk : 5 * k + 5 ≤ jd_k G 7) (hL : jd_k G 7 ≤ 320) {Q : Option Value → jd_H → Prop} {X : String → jd_H → Prop} (kk : law_k G β γ o k c s Q X) : jd_W G mL_law 20 (c + 2000) (s + 100000) 545 [some (.ref (jd_k G 6)), some (.ref (β 0 0)), some (.ref (γ 0 0)), some (.ref (o)), some (.int (nI (5 * k))), none, none] [] h Q X := by
  refine jd_aload_n dL_law_545 rfl ?_
  refine jd_aload_n dL_law_546 rfl ?_
  refine jd_iload dL_law_547 rfl ?_
  refine jd_iconst (v := 1) dL_law_549 (by decide) ?_
  refine jd_iaddN (a := 5 * k) (b := 1) dL_law_550 ?_
  refine jd_sld (n := (5 * k + 1)) (by omega) hL dL_law_551 ?_
  refine jd_aload_n dL_law_552 rfl ?_
  refine jd_iload dL_law_553 rfl ?_
  refine jd_iconst (v := 2) dL_law_555 (by decide) ?_
  refine jd_iaddN (a := 5 * k) (b := 2) dL_law_556 ?_
  refine jd_sld (n := (5 * k + 2)) (by omega) hL dL_law_557 ?_
  refine jd_mg1 566 (.int (jd_b ((¬ ((jd_scr G ((5 * k + 2))) = 0))))) (fun hj1 => ?_) ?_
  · refine jd_if_eq (tgt := 565) dL_law_558 (by decide) (fun z2 => ?_) (fun z3 => ?_)
    · refine jd_iconst (v := 0) dL_law_565 (by decide) ?_
      exact jd_top (congrArg Value.int (jd_b0 (fun w => w z2)).symm) hj1
    · refine jd_iconst (v := 1) dL_law_561 (by decide) ?_
      refine jd_goto (tgt := 566) dL_law_562 (by decide) ?_
      exact jd_top (congrArg Value.int (jd_b1 z3).symm) hj1
  · refine jd_top (w := .int (jd_b ((decide (¬ (jd_scr G (5 * k + 2)) = 0)) = true))) (congrArg Value.int (jd_bcong decide_eq_true_iff.symm)) ?_
    refine jd_aload_n dL_law_566 rfl ?_
    refine jd_iload dL_law_567 rfl ?_
    refine jd_iconst (v := 3) dL_law_569 (by decide) ?_
    refine jd_iaddN (a := 5 * k) (b := 3) dL_law_570 ?_
    refine jd_sld (n := (5 * k + 3)) (by omega) hL dL_law_571 ?_
    refine jd_aload_n dL_law_572 rfl ?_
    refine jd_callSH (As := [.ref (β 0 0), .int ((jd_scr G ((5 * k + 1)))), .int (jd_b ((decide (¬ (jd_scr G (5 * k + 2)) = 0)) = true)), .int ((jd_scr G ((5 * k + 3)))), .ref (o)]) (rest := []) (ct_X0_sleeper hw hI ho (jd_scr G (5 * k + 1)) (jd_scr G (5 * k + 3)) (decide (¬ (jd_scr G (5 * k + 2)) = 0))) rfl q829 q830 q79 q831 nX0_sleeper dL_law_573 rfl rfl (Nat.le_of_ble_eq_true rfl) ⟨(Nat.le_of_ble_eq_true rfl), (Nat.le_of_ble_eq_true rfl), by omega, by omega⟩ (fun rv3 hn3 hq3 => ?_) jd_nox
    obtain ⟨rfl, ⟨b1, hb1, hw1⟩, ⟨n1, ho1, hna1⟩, hf1⟩ := hq3
    have hm1 := hm.out hf1
    have hle := le_sleeper κ (jd_scr G (5 * k + 1)) (jd_scr G (5 * k + 3))
    refine jd_istore (ls' := [_, _, _, _, _, _, _]) dL_law_576 (Nat.le_of_ble_eq_true rfl) rfl rfl ?_
    refine jd_aload_n dL_law_578 rfl ?_
    refine jd_aload_n dL_law_579 rfl ?_
    refine jd_iload dL_law_580 rfl ?_
    refine jd_iconst (v := 1) dL_law_582 (by decide) ?_
    refine jd_iaddN (a := 5 * k) (b := 1) dL_law_583 ?_
    refine jd_sld (n := (5 * k + 1)) (by omega) hL dL_law_584 ?_
    refine jd_aload_n dL_law_585 rfl ?_
    refine jd_iload dL_law_586 rfl ?_
    refine jd_iconst (v := 2) dL_law_588 (by decide) ?_
    refine jd_iaddN (a := 5 * k) (b := 2) dL_law_589 ?_
    refine jd_sld (n := (5 * k + 2)) (by omega) hL dL_law_590 ?_
    refine jd_mg1 599 (.int (jd_b ((¬ ((jd_scr G ((5 * k + 2))) = 0))))) (fun hj5 => ?_) ?_
    · refine jd_if_eq (tgt := 598) dL_law_591 (by decide) (fun z6 => ?_) (fun z7 => ?_)
      · refine jd_iconst (v := 0) dL_law_598 (by decide) ?_
        exact jd_top (congrArg Value.int (jd_b0 (fun w => w z6)).symm) hj5
      · refine jd_iconst (v := 1) dL_law_594 (by decide) ?_
        refine jd_goto (tgt := 599) dL_law_595 (by decide) ?_
        exact jd_top (congrArg Value.int (jd_b1 z7).symm) hj5
    · refine jd_top (w := .int (jd_b ((decide (¬ (jd_scr G (5 * k + 2)) = 0)) = true))) (congrArg Value.int (jd_bcong decide_eq_true_iff.symm)) ?_
      refine jd_aload_n dL_law_599 rfl ?_
      refine jd_iload dL_law_600 rfl ?_
      refine jd_iconst (v := 3) dL_law_602 (by decide) ?_
      refine jd_iaddN (a := 5 * k) (b := 3) dL_law_603 ?_
      refine jd_sld (n := (5 * k + 3)) (by omega) hL dL_law_604 ?_
      refine jd_callV (As := [.int ((jd_scr G ((5 * k + 1)))), .int (jd_b ((decide (¬ (jd_scr G (5 * k + 2)) = 0)) = true)), .int ((jd_scr G ((5 * k + 3))))]) (rest := []) (ct_X4_sleeper hm1 hI (jd_scr G (5 * k + 1)) (jd_scr G (5 * k + 3)) (decide (¬ (jd_scr G (5 * k + 2)) = 0))) (jd_rv (w_mthis hm1) 9 rfl rfl) rfl q1589 q1590 q1591 q90 q1592 nX4_sleeper dL_law_605 rfl rfl rfl (Nat.le_of_ble_eq_true rfl) ⟨(Nat.le_of_ble_eq_true rfl), (Nat.le_of_ble_eq_true rfl), by omega, by omega⟩ (fun rv7 hn7 hq7 => ?_) jd_nox
      obtain ⟨⟨w1, rfl, hv1, hx1⟩, ⟨g1, m1, hg1, hm2, ht1⟩, hf2⟩ := hq7
      obtain ⟨x1, rfl⟩ : ∃ x, w1 = Value.int x := by
        by_cases e : c_sleeper κ (jd_scr G (5 * k + 1)) (jd_scr G (5 * k + 3)) = 0
        · exact ⟨_, hv1 e⟩
        · exact hx1 e
      have hw2 := hw1.of (fun j hj => hf2 j (Or.inl hj))
      have ho2 := (hf2 (40, 0) (Or.inr (by decide))).trans ho1.at
      have hI2 : ll_I (if c_sleeper κ (jd_scr G (5 * k + 1)) (jd_scr G (5 * k + 3)) = 0 then k_addS κ (tN (jd_scr G (5 * k + 1))) (decide (¬ (jd_scr G (5 * k + 2)) = 0)) (jd_scr G (5 * k + 3)) else κ) := by
        split
        · next e => exact P_sleeper hI e
        · exact hI
      refine jd_istore (ls' := [_, _, _, _, _, _, _]) dL_law_608 (Nat.le_of_ble_eq_true rfl) rfl rfl ?_
      refine jd_aload_n dL_law_610 rfl ?_
      refine jd_pV (As := []) (rest := []) (show jd_Ct G mX4_thrown 0 0 0 [.ref (γ 0 0)] _ _ _ from by rw [← hg1]; exact ct_X4_thrown hm2) (jd_rv (show _ = some (γ 0 0, _) from hg1 ▸ w_mthis hm2) 9 rfl rfl) rfl q1506 q1507 q1508 q90 q1509 nX4_thrown dL_law_611 rfl rfl rfl (Nat.le_of_ble_eq_true rfl) ⟨(Nat.le_of_ble_eq_true rfl), (Nat.le_of_ble_eq_true rfl)⟩ ?_
      refine jd_top (w := .int (nI (c_sleeper κ (jd_scr G (5 * k + 1)) (jd_scr G (5 * k + 3))))) (congrArg Value.int ht1) ?_
      refine jd_iload dL_law_614 rfl ?_
      refine jd_ncmp_eq (a := (c_sleeper κ (jd_scr G (5 * k + 1)) (jd_scr G (5 * k + 3)))) (b := (c_sleeper κ (jd_scr G (5 * k + 1)) (jd_scr G (5 * k + 3)))) (tgt := 621) dL_law_616 (by decide) (by omega) (by omega) (fun z9 => ?_) (fun z10 => ?_)
      · refine jd_iload dL_law_621 rfl ?_
        refine jd_nif_ne (a := (c_sleeper κ (jd_scr G (5 * k + 1)) (jd_scr G (5 * k + 3)))) (tgt := 639) dL_law_623 (by decide) (by omega) (fun z11 => ?_) (fun z12 => ?_)
        · refine jd_goto (tgt := 1978) dL_law_639 (by decide) ?_
          refine jd_lsub [some (.ref (jd_k G 6)), some (.ref (β 0 0)), some (.ref (γ 0 0)), some (.ref (o)), some (.int (nI (5 * k))), none, none] ⟨rfl, rfl, rfl, rfl, rfl, trivial⟩ ?_
          exact jd_wk (kk b1 g1 _ _ hn7 _ _ hb1 hg1 hw2 hm2 hI2 ho2) (by omega) (by omega)
        · have hc0 : c_sleeper κ (jd_scr G (5 * k + 1)) (jd_scr G (5 * k + 3)) = 0 := z12
          have hx2 : x1 = _ := Value.int.inj (hv1 hc0)
          have he : n1 = x1.toInt64 := by rw [hna1 hc0, hx2]
          refine jd_aload_n dL_law_626 rfl ?_
          refine jd_getN in_X6 ho2 0 q598 dL_law_627 rfl (Nat.le_of_ble_eq_true rfl) rfl ?_
          refine jd_iload dL_law_630 rfl ?_
          refine jd_i2l dL_law_632 ?_
          refine jd_lcmp dL_law_633 ?_
          refine jd_if_eq (tgt := 639) dL_law_634 (by decide) (fun z13 => ?_) (fun z14 => ?_)
          · refine jd_goto (tgt := 1978) dL_law_639 (by decide) ?_
            refine jd_lsub [some (.ref (jd_k G 6)), some (.ref (β 0 0)), some (.ref (γ 0 0)), some (.ref (o)), some (.int (nI (5 * k))), none, none] ⟨rfl, rfl, rfl, rfl, rfl, trivial⟩ ?_
            exact jd_wk (kk b1 g1 _ _ hn7 _ _ hb1 hg1 hw2 hm2 hI2 ho2) (by omega) (by omega)
          · exact absurd (by rw [he]; exact lg_self) z14
      · exact absurd rfl z10

set_option maxRecDepth 20000 in
set_option maxHeartbeats 2000000 in
theorem law_6 {G : jd_G} {β γ : ll_B} {κ : ll_K} {μ : ll_U} {h : jd_H} (hw : WC G β κ h) (hm : WM G γ κ μ h) (hI : ll_I κ) {o : Nat} {n : Int64} {sv : Value} (ho : WO o n sv h) {k c s : Nat} (hk : 5 * k + 5 ≤ jd_k G 7) (hL : jd_k G 7 ≤ 320) {Q : Option Value → jd_H → Prop} {X : String → jd_H → Prop} (kk : law_k G β γ o k c s Q X) : jd_W G mL_law 20 (c + 2000) (s + 100000) 642 [some (.ref (jd_k G 6)), some (.ref (β 0 0)), some (.ref (γ 0 0)), some (.ref (o)), some (.int (nI (5 * k))), none, none] [] h Q X := by
  refine jd_aload_n dL_law_642 rfl ?_
  refine jd_aload_n dL_law_643 rfl ?_
  refine jd_iload dL_law_644 rfl ?_
  refine jd_iconst (v := 1) dL_law_646 (by decide) ?_
  refine jd_iaddN (a := 5 * k) (b := 1) dL_law_647 ?_
  refine jd_sld (n := (5 * k + 1)) (by omega) hL dL_law_648 ?_
  refine jd_aload_n dL_law_649 rfl ?_
  refine jd_iload dL_law_650 rfl ?_
  refine jd_iconst (v := 2) dL_law_652 (by decide) ?_
  refine jd_iaddN (a := 5 * k) (b := 2) dL_law_653 ?_
  refine jd_sld (n := (5 * k + 2)) (by omega) hL dL_law_654 ?_
  refine jd_aload_n dL_law_655 rfl ?_
  refine jd_iload dL_law_656 rfl ?_
  refine jd_iconst (v := 3) dL_law_658 (by decide) ?_
  refine jd_iaddN (a := 5 * k) (b := 3) dL_law_659 ?_
  refine jd_sld (n := (5 * k + 3)) (by omega) hL dL_law_660 ?_
  refine jd_aload_n dL_law_661 rfl ?_
  refine jd_iload dL_law_662 rfl ?_
  refine jd_iconst (v := 4) dL_law_664 (by decide) ?_
  refine jd_iaddN (a := 5 * k) (b := 4) dL_law_665 ?_
  refine jd_sld (n := (5 * k + 4)) (by omega) hL dL_law_666 ?_
  refine jd_aload_n dL_law_667 rfl ?_
  refine jd_callSH (As := [.ref (β 0 0), .int ((jd_scr G ((5 * k + 1)))), .int ((jd_scr G ((5 * k + 2)))), .int ((jd_scr G ((5 * k + 3)))), .int ((jd_scr G ((5 * k + 4)))), .ref (o)]) (rest := []) (ct_X0_part hw hI ho (jd_scr G (5 * k + 1)) (jd_scr G (5 * k + 2)) (jd_scr G (5 * k + 3)) (jd_scr G (5 * k + 4))) rfl q882 q883 q79 q884 nX0_part dL_law_668 rfl rfl (Nat.le_of_ble_eq_true rfl) ⟨(Nat.le_of_ble_eq_true rfl), (Nat.le_of_ble_eq_true rfl), by omega, by omega⟩ (fun rv0 hn0 hq0 => ?_) jd_nox
  obtain ⟨rfl, ⟨b1, hb1, hw1⟩, ⟨n1, ho1, hna1⟩, hf1⟩ := hq0
  have hm1 := hm.out hf1
  have hle := le_part κ (jd_scr G (5 * k + 1)) (jd_scr G (5 * k + 2)) (jd_scr G (5 * k + 3)) (jd_scr G (5 * k + 4))
  refine jd_istore (ls' := [_, _, _, _, _, _, _]) dL_law_671 (Nat.le_of_ble_eq_true rfl) rfl rfl ?_
  refine jd_aload_n dL_law_673 rfl ?_
  refine jd_aload_n dL_law_674 rfl ?_
  refine jd_iload dL_law_675 rfl ?_
  refine jd_iconst (v := 1) dL_law_677 (by decide) ?_
  refine jd_iaddN (a := 5 * k) (b := 1) dL_law_678 ?_
  refine jd_sld (n := (5 * k + 1)) (by omega) hL dL_law_679 ?_
  refine jd_aload_n dL_law_680 rfl ?_
  refine jd_iload dL_law_681 rfl ?_
  refine jd_iconst (v := 2) dL_law_683 (by decide) ?_
  refine jd_iaddN (a := 5 * k) (b := 2) dL_law_684 ?_
  refine jd_sld (n := (5 * k + 2)) (by omega) hL dL_law_685 ?_
  refine jd_aload_n dL_law_686 rfl ?_
  refine jd_iload dL_law_687 rfl ?_
  refine jd_iconst (v := 3) dL_law_689 (by decide) ?_
  refine jd_iaddN (a := 5 * k) (b := 3) dL_law_690 ?_
  refine jd_sld (n := (5 * k + 3)) (by omega) hL dL_law_691 ?_
  refine jd_aload_n dL_law_692 rfl ?_
  refine jd_iload dL_law_693 rfl ?_
  refine jd_iconst (v := 4) dL_law_695 (by decide) ?_
  refine jd_iaddN (a := 5 * k) (b := 4) dL_law_696 ?_
  refine jd_sld (n := (5 * k + 4)) (by omega) hL dL_law_697 ?_
  refine jd_callV (As := [.int ((jd_scr G ((5 * k + 1)))), .int ((jd_scr G ((5 * k + 2)))), .int ((jd_scr G ((5 * k + 3)))), .int ((jd_scr G ((5 * k + 4))))]) (rest := []) (ct_X4_part hm1 hI (jd_scr G (5 * k + 1)) (jd_scr G (5 * k + 2)) (jd_scr G (5 * k + 3)) (jd_scr G (5 * k + 4))) (jd_rv (w_mthis hm1) 9 rfl rfl) rfl q1630 q1631 q1632 q90 q1633 nX4_part dL_law_698 rfl rfl rfl (Nat.le_of_ble_eq_true rfl) ⟨(Nat.le_of_ble_eq_true rfl), (Nat.le_of_ble_eq_true rfl), by omega, by omega⟩ (fun rv1 hn1 hq1 => ?_) jd_nox
  obtain ⟨⟨w1, rfl, hv1, hx1⟩, ⟨g1, m1, hg1, hm2, ht1⟩, hf2⟩ := hq1
  obtain ⟨x1, rfl⟩ : ∃ x, w1 = Value.int x := by
    by_cases e : c_part κ (jd_scr G (5 * k + 1)) (jd_scr G (5 * k + 2)) (jd_scr G (5 * k + 3)) (jd_scr G (5 * k + 4)) = 0
    · exact ⟨_, hv1 e⟩
    · exact hx1 e
  have hw2 := hw1.of (fun j hj => hf2 j (Or.inl hj))
  have ho2 := (hf2 (40, 0) (Or.inr (by decide))).trans ho1.at
  have hI2 : ll_I (if c_part κ (jd_scr G (5 * k + 1)) (jd_scr G (5 * k + 2)) (jd_scr G (5 * k + 3)) (jd_scr G (5 * k + 4)) = 0 then k_addP κ (tN (jd_scr G (5 * k + 2))) (jd_scr G (5 * k + 3)) (jd_scr G (5 * k + 4)) (tN (jd_scr G (5 * k + 1))) else κ) := by
    split
    · next e => exact P_part hI e
    · exact hI
  refine jd_istore (ls' := [_, _, _, _, _, _, _]) dL_law_701 (Nat.le_of_ble_eq_true rfl) rfl rfl ?_
  refine jd_aload_n dL_law_703 rfl ?_
  refine jd_pV (As := []) (rest := []) (show jd_Ct G mX4_thrown 0 0 0 [.ref (γ 0 0)] _ _ _ from by rw [← hg1]; exact ct_X4_thrown hm2) (jd_rv (show _ = some (γ 0 0, _) from hg1 ▸ w_mthis hm2) 9 rfl rfl) rfl q1506 q1507 q1508 q90 q1509 nX4_thrown dL_law_704 rfl rfl rfl (Nat.le_of_ble_eq_true rfl) ⟨(Nat.le_of_ble_eq_true rfl), (Nat.le_of_ble_eq_true rfl)⟩ ?_
  refine jd_top (w := .int (nI (c_part κ (jd_scr G (5 * k + 1)) (jd_scr G (5 * k + 2)) (jd_scr G (5 * k + 3)) (jd_scr G (5 * k + 4))))) (congrArg Value.int ht1) ?_
  refine jd_iload dL_law_707 rfl ?_
  refine jd_ncmp_eq (a := (c_part κ (jd_scr G (5 * k + 1)) (jd_scr G (5 * k + 2)) (jd_scr G (5 * k + 3)) (jd_scr G (5 * k + 4)))) (b := (c_part κ (jd_scr G (5 * k + 1)) (jd_scr G (5 * k + 2)) (jd_scr G (5 * k + 3)) (jd_scr G (5 * k + 4)))) (tgt := 714) dL_law_709 (by decide) (by omega) (by omega) (fun z3 => ?_) (fun z4 => ?_)
  · refine jd_iload dL_law_714 rfl ?_
    refine jd_nif_ne (a := (c_part κ (jd_scr G (5 * k + 1)) (jd_scr G (5 * k + 2)) (jd_scr G (5 * k + 3)) (jd_scr G (5 * k + 4)))) (tgt := 732) dL_law_716 (by decide) (by omega) (fun z5 => ?_) (fun z6 => ?_)
    · refine jd_goto (tgt := 1978) dL_law_732 (by decide) ?_
      refine jd_lsub [some (.ref (jd_k G 6)), some (.ref (β 0 0)), some (.ref (γ 0 0)), some (.ref (o)), some (.int (nI (5 * k))), none, none] ⟨rfl, rfl, rfl, rfl, rfl, trivial⟩ ?_
      exact jd_wk (kk b1 g1 _ _ hn1 _ _ hb1 hg1 hw2 hm2 hI2 ho2) (by omega) (by omega)
    · have hc0 : c_part κ (jd_scr G (5 * k + 1)) (jd_scr G (5 * k + 2)) (jd_scr G (5 * k + 3)) (jd_scr G (5 * k + 4)) = 0 := z6
      have hx2 : x1 = _ := Value.int.inj (hv1 hc0)
      have he : n1 = x1.toInt64 := by rw [hna1 hc0, hx2]
      refine jd_aload_n dL_law_719 rfl ?_
      refine jd_getN in_X6 ho2 0 q598 dL_law_720 rfl (Nat.le_of_ble_eq_true rfl) rfl ?_
      refine jd_iload dL_law_723 rfl ?_
      refine jd_i2l dL_law_725 ?_
      refine jd_lcmp dL_law_726 ?_
      refine jd_if_eq (tgt := 732) dL_law_727 (by decide) (fun z7 => ?_) (fun z8 => ?_)
      · refine jd_goto (tgt := 1978) dL_law_732 (by decide) ?_
        refine jd_lsub [some (.ref (jd_k G 6)), some (.ref (β 0 0)), some (.ref (γ 0 0)), some (.ref (o)), some (.int (nI (5 * k))), none, none] ⟨rfl, rfl, rfl, rfl, rfl, trivial⟩ ?_
        exact jd_wk (kk b1 g1 _ _ hn1 _ _ hb1 hg1 hw2 hm2 hI2 ho2) (by omega) (by omega)
      · exact absurd (by rw [he]; exact lg_self) z8
  · exact absurd rfl z4

set_option maxRecDepth 20000 in
set_option maxHeartbeats 2000000 in
theorem law_7 {G : jd_G} {β γ : ll_B} {κ : ll_K} {μ : ll_U} {h : jd_H} (hw : WC G β κ h) (hm : WM G γ κ μ h) (hI : ll_I κ) {o : Nat} {n : Int64} {sv : Value} (ho : WO o n sv h) {k c s : Nat} (hk : 5 * k + 5 ≤ jd_k G 7) (hL : jd_k G 7 ≤ 320) {Q : Option Value → jd_H → Prop} {X : String → jd_H → Prop} (kk : law_k G β γ o k c s Q X) : jd_W G mL_law 20 (c + 2000) (s + 100000) 735 [some (.ref (jd_k G 6)), some (.ref (β 0 0)), some (.ref (γ 0 0)), some (.ref (o)), some (.int (nI (5 * k))), none, none] [] h Q X := by
  refine jd_aload_n dL_law_735 rfl ?_
  refine jd_aload_n dL_law_736 rfl ?_
  refine jd_iload dL_law_737 rfl ?_
  refine jd_iconst (v := 1) dL_law_739 (by decide) ?_
  refine jd_iaddN (a := 5 * k) (b := 1) dL_law_740 ?_
  refine jd_sld (n := (5 * k + 1)) (by omega) hL dL_law_741 ?_
  refine jd_aload_n dL_law_742 rfl ?_
  refine jd_iload dL_law_743 rfl ?_
  refine jd_iconst (v := 2) dL_law_745 (by decide) ?_
  refine jd_iaddN (a := 5 * k) (b := 2) dL_law_746 ?_
  refine jd_sld (n := (5 * k + 2)) (by omega) hL dL_law_747 ?_
  refine jd_aload_n dL_law_748 rfl ?_
  refine jd_callSH (As := [.ref (β 0 0), .int ((jd_scr G ((5 * k + 1)))), .int ((jd_scr G ((5 * k + 2)))), .ref (o)]) (rest := []) (ct_X0_give hw hI ho (jd_scr G (5 * k + 1)) (jd_scr G (5 * k + 2))) rfl q930 q931 q79 q932 nX0_give dL_law_749 rfl rfl (Nat.le_of_ble_eq_true rfl) ⟨(Nat.le_of_ble_eq_true rfl), (Nat.le_of_ble_eq_true rfl), by omega, by omega⟩ (fun rv0 hn0 hq0 => ?_) jd_nox
  obtain ⟨rfl, ⟨b1, hb1, hw1⟩, ⟨n1, ho1, hna1⟩, hf1⟩ := hq0
  have hm1 := hm.out hf1
  have hle := le_give κ (jd_scr G (5 * k + 1)) (jd_scr G (5 * k + 2))
  refine jd_istore (ls' := [_, _, _, _, _, _, _]) dL_law_752 (Nat.le_of_ble_eq_true rfl) rfl rfl ?_
  refine jd_aload_n dL_law_754 rfl ?_
  refine jd_aload_n dL_law_755 rfl ?_
  refine jd_iload dL_law_756 rfl ?_
  refine jd_iconst (v := 1) dL_law_758 (by decide) ?_
  refine jd_iaddN (a := 5 * k) (b := 1) dL_law_759 ?_
  refine jd_sld (n := (5 * k + 1)) (by omega) hL dL_law_760 ?_
  refine jd_aload_n dL_law_761 rfl ?_
  refine jd_iload dL_law_762 rfl ?_
  refine jd_iconst (v := 2) dL_law_764 (by decide) ?_
  refine jd_iaddN (a := 5 * k) (b := 2) dL_law_765 ?_
  refine jd_sld (n := (5 * k + 2)) (by omega) hL dL_law_766 ?_
  refine jd_callV (As := [.int ((jd_scr G ((5 * k + 1)))), .int ((jd_scr G ((5 * k + 2))))]) (rest := []) (ct_X4_give hm1 hI (jd_scr G (5 * k + 1)) (jd_scr G (5 * k + 2))) (jd_rv (w_mthis hm1) 9 rfl rfl) rfl q1665 q1666 q1667 q90 q1668 nX4_give dL_law_767 rfl rfl rfl (Nat.le_of_ble_eq_true rfl) ⟨(Nat.le_of_ble_eq_true rfl), (Nat.le_of_ble_eq_true rfl), by omega, by omega⟩ (fun rv1 hn1 hq1 => ?_) jd_nox
  obtain ⟨⟨w1, rfl, hv1, hx1⟩, ⟨g1, m1, hg1, hm2, ht1⟩, hf2⟩ := hq1
  obtain ⟨x1, rfl⟩ : ∃ x, w1 = Value.int x := by
    by_cases e : c_give κ (jd_scr G (5 * k + 1)) (jd_scr G (5 * k + 2)) = 0
    · exact ⟨_, hv1 e⟩
    · exact hx1 e
  have hw2 := hw1.of (fun j hj => hf2 j (Or.inl hj))
  have ho2 := (hf2 (40, 0) (Or.inr (by decide))).trans ho1.at
  have hI2 : ll_I (if c_give κ (jd_scr G (5 * k + 1)) (jd_scr G (5 * k + 2)) = 0 then ll_so κ 1 (tN (jd_scr G (5 * k + 1))) (some (tN (jd_scr G (5 * k + 2)))) else κ) := by
    split
    · next e => exact P_give hI e
    · exact hI
  refine jd_istore (ls' := [_, _, _, _, _, _, _]) dL_law_770 (Nat.le_of_ble_eq_true rfl) rfl rfl ?_
  refine jd_aload_n dL_law_772 rfl ?_
  refine jd_pV (As := []) (rest := []) (show jd_Ct G mX4_thrown 0 0 0 [.ref (γ 0 0)] _ _ _ from by rw [← hg1]; exact ct_X4_thrown hm2) (jd_rv (show _ = some (γ 0 0, _) from hg1 ▸ w_mthis hm2) 9 rfl rfl) rfl q1506 q1507 q1508 q90 q1509 nX4_thrown dL_law_773 rfl rfl rfl (Nat.le_of_ble_eq_true rfl) ⟨(Nat.le_of_ble_eq_true rfl), (Nat.le_of_ble_eq_true rfl)⟩ ?_
  refine jd_top (w := .int (nI (c_give κ (jd_scr G (5 * k + 1)) (jd_scr G (5 * k + 2))))) (congrArg Value.int ht1) ?_
  refine jd_iload dL_law_776 rfl ?_
  refine jd_ncmp_eq (a := (c_give κ (jd_scr G (5 * k + 1)) (jd_scr G (5 * k + 2)))) (b := (c_give κ (jd_scr G (5 * k + 1)) (jd_scr G (5 * k + 2)))) (tgt := 783) dL_law_778 (by decide) (by omega) (by omega) (fun z3 => ?_) (fun z4 => ?_)
  · refine jd_iload dL_law_783 rfl ?_
    refine jd_nif_ne (a := (c_give κ (jd_scr G (5 * k + 1)) (jd_scr G (5 * k + 2)))) (tgt := 801) dL_law_785 (by decide) (by omega) (fun z5 => ?_) (fun z6 => ?_)
    · refine jd_goto (tgt := 1978) dL_law_801 (by decide) ?_
      refine jd_lsub [some (.ref (jd_k G 6)), some (.ref (β 0 0)), some (.ref (γ 0 0)), some (.ref (o)), some (.int (nI (5 * k))), none, none] ⟨rfl, rfl, rfl, rfl, rfl, trivial⟩ ?_
      exact jd_wk (kk b1 g1 _ _ hn1 _ _ hb1 hg1 hw2 hm2 hI2 ho2) (by omega) (by omega)
    · have hc0 : c_give κ (jd_scr G (5 * k + 1)) (jd_scr G (5 * k + 2)) = 0 := z6
      have hx2 : x1 = _ := Value.int.inj (hv1 hc0)
      have he : n1 = x1.toInt64 := by rw [hna1 hc0, hx2]
      refine jd_aload_n dL_law_788 rfl ?_
      refine jd_getN in_X6 ho2 0 q598 dL_law_789 rfl (Nat.le_of_ble_eq_true rfl) rfl ?_
      refine jd_iload dL_law_792 rfl ?_
      refine jd_i2l dL_law_794 ?_
      refine jd_lcmp dL_law_795 ?_
      refine jd_if_eq (tgt := 801) dL_law_796 (by decide) (fun z7 => ?_) (fun z8 => ?_)
      · refine jd_goto (tgt := 1978) dL_law_801 (by decide) ?_
        refine jd_lsub [some (.ref (jd_k G 6)), some (.ref (β 0 0)), some (.ref (γ 0 0)), some (.ref (o)), some (.int (nI (5 * k))), none, none] ⟨rfl, rfl, rfl, rfl, rfl, trivial⟩ ?_
        exact jd_wk (kk b1 g1 _ _ hn1 _ _ hb1 hg1 hw2 hm2 hI2 ho2) (by omega) (by omega)
      · exact absurd (by rw [he]; exact lg_self) z8
  · exact absurd rfl z4

set_option maxRecDepth 20000 in
set_option maxHeartbeats 2000000 in
theorem law_8 {G : jd_G} {β γ : ll_B} {κ : ll_K} {μ : ll_U} {h : jd_H} (hw : WC G β κ h) (hm : WM G γ κ μ h) (hI : ll_I κ) {o : Nat} {n : Int64} {sv : Value} (ho : WO o n sv h) {k c s : Nat} (hk : 5 * k + 5 ≤ jd_k G 7) (hL : jd_k G 7 ≤ 320) {Q : Option Value → jd_H → Prop} {X : String → jd_H → Prop} (kk : law_k G β γ o k c s Q X) : jd_W G mL_law 20 (c + 2000) (s + 100000) 804 [some (.ref (jd_k G 6)), some (.ref (β 0 0)), some (.ref (γ 0 0)), some (.ref (o)), some (.int (nI (5 * k))), none, none] [] h Q X := by
  refine jd_aload_n dL_law_804 rfl ?_
  refine jd_aload_n dL_law_805 rfl ?_
  refine jd_iload dL_law_806 rfl ?_
  refine jd_iconst (v := 1) dL_law_808 (by decide) ?_
  refine jd_iaddN (a := 5 * k) (b := 1) dL_law_809 ?_
  refine jd_sld (n := (5 * k + 1)) (by omega) hL dL_law_810 ?_
  refine jd_aload_n dL_law_811 rfl ?_
  refine jd_iload dL_law_812 rfl ?_
  refine jd_iconst (v := 2) dL_law_814 (by decide) ?_
  refine jd_iaddN (a := 5 * k) (b := 2) dL_law_815 ?_
  refine jd_sld (n := (5 * k + 2)) (by omega) hL dL_law_816 ?_
  refine jd_aload_n dL_law_817 rfl ?_
  refine jd_iload dL_law_818 rfl ?_
  refine jd_iconst (v := 3) dL_law_820 (by decide) ?_
  refine jd_iaddN (a := 5 * k) (b := 3) dL_law_821 ?_
  refine jd_sld (n := (5 * k + 3)) (by omega) hL dL_law_822 ?_
  refine jd_aload_n dL_law_823 rfl ?_
  refine jd_iload dL_law_824 rfl ?_
  refine jd_iconst (v := 4) dL_law_826 (by decide) ?_
  refine jd_iaddN (a := 5 * k) (b := 4) dL_law_827 ?_
  refine jd_sld (n := (5 * k + 4)) (by omega) hL dL_law_828 ?_
  refine jd_aload_n dL_law_829 rfl ?_
  refine jd_callSH (As := [.ref (β 0 0), .int ((jd_scr G ((5 * k + 1)))), .int ((jd_scr G ((5 * k + 2)))), .int ((jd_scr G ((5 * k + 3)))), .int ((jd_scr G ((5 * k + 4)))), .ref (o)]) (rest := []) (ct_X0_sing hw hI ho (jd_scr G (5 * k + 1)) (jd_scr G (5 * k + 2)) (jd_scr G (5 * k + 3)) (jd_scr G (5 * k + 4))) rfl q941 q942 q79 q943 nX0_sing dL_law_830 rfl rfl (Nat.le_of_ble_eq_true rfl) ⟨(Nat.le_of_ble_eq_true rfl), (Nat.le_of_ble_eq_true rfl), by omega, by omega⟩ (fun rv0 hn0 hq0 => ?_) jd_nox
  obtain ⟨rfl, ⟨b1, hb1, hw1⟩, ⟨n1, ho1, hna1⟩, hf1⟩ := hq0
  have hm1 := hm.out hf1
  have hle := le_sing κ (jd_scr G (5 * k + 1)) (jd_scr G (5 * k + 2)) (jd_scr G (5 * k + 3)) (jd_scr G (5 * k + 4))
  refine jd_istore (ls' := [_, _, _, _, _, _, _]) dL_law_833 (Nat.le_of_ble_eq_true rfl) rfl rfl ?_
  refine jd_aload_n dL_law_835 rfl ?_
  refine jd_aload_n dL_law_836 rfl ?_
  refine jd_iload dL_law_837 rfl ?_
  refine jd_iconst (v := 1) dL_law_839 (by decide) ?_
  refine jd_iaddN (a := 5 * k) (b := 1) dL_law_840 ?_
  refine jd_sld (n := (5 * k + 1)) (by omega) hL dL_law_841 ?_
  refine jd_aload_n dL_law_842 rfl ?_
  refine jd_iload dL_law_843 rfl ?_
  refine jd_iconst (v := 2) dL_law_845 (by decide) ?_
  refine jd_iaddN (a := 5 * k) (b := 2) dL_law_846 ?_
  refine jd_sld (n := (5 * k + 2)) (by omega) hL dL_law_847 ?_
  refine jd_aload_n dL_law_848 rfl ?_
  refine jd_iload dL_law_849 rfl ?_
  refine jd_iconst (v := 3) dL_law_851 (by decide) ?_
  refine jd_iaddN (a := 5 * k) (b := 3) dL_law_852 ?_
  refine jd_sld (n := (5 * k + 3)) (by omega) hL dL_law_853 ?_
  refine jd_aload_n dL_law_854 rfl ?_
  refine jd_iload dL_law_855 rfl ?_
  refine jd_iconst (v := 4) dL_law_857 (by decide) ?_
  refine jd_iaddN (a := 5 * k) (b := 4) dL_law_858 ?_
  refine jd_sld (n := (5 * k + 4)) (by omega) hL dL_law_859 ?_
  refine jd_callV (As := [.int ((jd_scr G ((5 * k + 1)))), .int ((jd_scr G ((5 * k + 2)))), .int ((jd_scr G ((5 * k + 3)))), .int ((jd_scr G ((5 * k + 4))))]) (rest := []) (ct_X4_sing hm1 hI (jd_scr G (5 * k + 1)) (jd_scr G (5 * k + 2)) (jd_scr G (5 * k + 3)) (jd_scr G (5 * k + 4))) (jd_rv (w_mthis hm1) 9 rfl rfl) rfl q1673 q1674 q1675 q90 q1676 nX4_sing dL_law_860 rfl rfl rfl (Nat.le_of_ble_eq_true rfl) ⟨(Nat.le_of_ble_eq_true rfl), (Nat.le_of_ble_eq_true rfl), by omega, by omega⟩ (fun rv1 hn1 hq1 => ?_) jd_nox
  obtain ⟨⟨w1, rfl, hv1, hx1⟩, ⟨g1, m1, hg1, hm2, ht1⟩, hf2⟩ := hq1
  obtain ⟨x1, rfl⟩ : ∃ x, w1 = Value.int x := by
    by_cases e : c_sing κ (jd_scr G (5 * k + 1)) (jd_scr G (5 * k + 2)) (jd_scr G (5 * k + 3)) (jd_scr G (5 * k + 4)) = 0
    · exact ⟨_, hv1 e⟩
    · exact hx1 e
  have hw2 := hw1.of (fun j hj => hf2 j (Or.inl hj))
  have ho2 := (hf2 (40, 0) (Or.inr (by decide))).trans ho1.at
  have hI2 : ll_I (if c_sing κ (jd_scr G (5 * k + 1)) (jd_scr G (5 * k + 2)) (jd_scr G (5 * k + 3)) (jd_scr G (5 * k + 4)) = 0 then ll_sp κ (tN (jd_scr G (5 * k + 1))) (some (tN (jd_scr G (5 * k + 2)), tN (jd_scr G (5 * k + 3)), tN (jd_scr G (5 * k + 4)))) else κ) := by
    split
    · next e => exact P_sing hI e
    · exact hI
  refine jd_istore (ls' := [_, _, _, _, _, _, _]) dL_law_863 (Nat.le_of_ble_eq_true rfl) rfl rfl ?_
  refine jd_aload_n dL_law_865 rfl ?_
  refine jd_pV (As := []) (rest := []) (show jd_Ct G mX4_thrown 0 0 0 [.ref (γ 0 0)] _ _ _ from by rw [← hg1]; exact ct_X4_thrown hm2) (jd_rv (show _ = some (γ 0 0, _) from hg1 ▸ w_mthis hm2) 9 rfl rfl) rfl q1506 q1507 q1508 q90 q1509 nX4_thrown dL_law_866 rfl rfl rfl (Nat.le_of_ble_eq_true rfl) ⟨(Nat.le_of_ble_eq_true rfl), (Nat.le_of_ble_eq_true rfl)⟩ ?_
  refine jd_top (w := .int (nI (c_sing κ (jd_scr G (5 * k + 1)) (jd_scr G (5 * k + 2)) (jd_scr G (5 * k + 3)) (jd_scr G (5 * k + 4))))) (congrArg Value.int ht1) ?_
  refine jd_iload dL_law_869 rfl ?_
  refine jd_ncmp_eq (a := (c_sing κ (jd_scr G (5 * k + 1)) (jd_scr G (5 * k + 2)) (jd_scr G (5 * k + 3)) (jd_scr G (5 * k + 4)))) (b := (c_sing κ (jd_scr G (5 * k + 1)) (jd_scr G (5 * k + 2)) (jd_scr G (5 * k + 3)) (jd_scr G (5 * k + 4)))) (tgt := 876) dL_law_871 (by decide) (by omega) (by omega) (fun z3 => ?_) (fun z4 => ?_)
  · refine jd_iload dL_law_876 rfl ?_
    refine jd_nif_ne (a := (c_sing κ (jd_scr G (5 * k + 1)) (jd_scr G (5 * k + 2)) (jd_scr G (5 * k + 3)) (jd_scr G (5 * k + 4)))) (tgt := 894) dL_law_878 (by decide) (by omega) (fun z5 => ?_) (fun z6 => ?_)
    · refine jd_goto (tgt := 1978) dL_law_894 (by decide) ?_
      refine jd_lsub [some (.ref (jd_k G 6)), some (.ref (β 0 0)), some (.ref (γ 0 0)), some (.ref (o)), some (.int (nI (5 * k))), none, none] ⟨rfl, rfl, rfl, rfl, rfl, trivial⟩ ?_
      exact jd_wk (kk b1 g1 _ _ hn1 _ _ hb1 hg1 hw2 hm2 hI2 ho2) (by omega) (by omega)
    · have hc0 : c_sing κ (jd_scr G (5 * k + 1)) (jd_scr G (5 * k + 2)) (jd_scr G (5 * k + 3)) (jd_scr G (5 * k + 4)) = 0 := z6
      have hx2 : x1 = _ := Value.int.inj (hv1 hc0)
      have he : n1 = x1.toInt64 := by rw [hna1 hc0, hx2]
      refine jd_aload_n dL_law_881 rfl ?_
      refine jd_getN in_X6 ho2 0 q598 dL_law_882 rfl (Nat.le_of_ble_eq_true rfl) rfl ?_
      refine jd_iload dL_law_885 rfl ?_
      refine jd_i2l dL_law_887 ?_
      refine jd_lcmp dL_law_888 ?_
      refine jd_if_eq (tgt := 894) dL_law_889 (by decide) (fun z7 => ?_) (fun z8 => ?_)
      · refine jd_goto (tgt := 1978) dL_law_894 (by decide) ?_
        refine jd_lsub [some (.ref (jd_k G 6)), some (.ref (β 0 0)), some (.ref (γ 0 0)), some (.ref (o)), some (.int (nI (5 * k))), none, none] ⟨rfl, rfl, rfl, rfl, rfl, trivial⟩ ?_
        exact jd_wk (kk b1 g1 _ _ hn1 _ _ hb1 hg1 hw2 hm2 hI2 ho2) (by omega) (by omega)
      · exact absurd (by rw [he]; exact lg_self) z8
  · exact absurd rfl z4

set_option maxRecDepth 20000 in
set_option maxHeartbeats 2000000 in
theorem law_9 {G : jd_G} {β γ : ll_B} {κ : ll_K} {μ : ll_U} {h : jd_H} (hw : WC G β κ h) (hm : WM G γ κ μ h) (hI : ll_I κ) {o : Nat} {n : Int64} {sv : Value} (ho : WO o n sv h) {k c s : Nat} (hk : 5 * k + 5 ≤ jd_k G 7) (hL : jd_k G 7 ≤ 320) {Q : Option Value → jd_H → Prop} {X : String → jd_H → Prop} (kk : law_k G β γ o k c s Q X) : jd_W G mL_law 20 (c + 2000) (s + 100000) 897 [some (.ref (jd_k G 6)), some (.ref (β 0 0)), some (.ref (γ 0 0)), some (.ref (o)), some (.int (nI (5 * k))), none, none] [] h Q X := by
  refine jd_aload_n dL_law_897 rfl ?_
  refine jd_aload_n dL_law_898 rfl ?_
  refine jd_iload dL_law_899 rfl ?_
  refine jd_iconst (v := 1) dL_law_901 (by decide) ?_
  refine jd_iaddN (a := 5 * k) (b := 1) dL_law_902 ?_
  refine jd_sld (n := (5 * k + 1)) (by omega) hL dL_law_903 ?_
  refine jd_aload_n dL_law_904 rfl ?_
  refine jd_iload dL_law_905 rfl ?_
  refine jd_iconst (v := 2) dL_law_907 (by decide) ?_
  refine jd_iaddN (a := 5 * k) (b := 2) dL_law_908 ?_
  refine jd_sld (n := (5 * k + 2)) (by omega) hL dL_law_909 ?_
  refine jd_aload_n dL_law_910 rfl ?_
  refine jd_callSH (As := [.ref (β 0 0), .int ((jd_scr G ((5 * k + 1)))), .int ((jd_scr G ((5 * k + 2)))), .ref (o)]) (rest := []) (ct_X0_revoke hw hI ho (jd_scr G (5 * k + 1)) (jd_scr G (5 * k + 2))) rfl q982 q983 q79 q984 nX0_revoke dL_law_911 rfl rfl (Nat.le_of_ble_eq_true rfl) ⟨(Nat.le_of_ble_eq_true rfl), (Nat.le_of_ble_eq_true rfl), by omega, by omega⟩ (fun rv0 hn0 hq0 => ?_) jd_nox
  obtain ⟨rfl, ⟨b1, hb1, hw1⟩, ⟨n1, ho1, hna1⟩, hf1⟩ := hq0
  have hm1 := hm.out hf1
  have hle := le_revoke κ (jd_scr G (5 * k + 1)) (jd_scr G (5 * k + 2))
  refine jd_istore (ls' := [_, _, _, _, _, _, _]) dL_law_914 (Nat.le_of_ble_eq_true rfl) rfl rfl ?_
  refine jd_aload_n dL_law_916 rfl ?_
  refine jd_aload_n dL_law_917 rfl ?_
  refine jd_iload dL_law_918 rfl ?_
  refine jd_iconst (v := 1) dL_law_920 (by decide) ?_
  refine jd_iaddN (a := 5 * k) (b := 1) dL_law_921 ?_
  refine jd_sld (n := (5 * k + 1)) (by omega) hL dL_law_922 ?_
  refine jd_aload_n dL_law_923 rfl ?_
  refine jd_iload dL_law_924 rfl ?_
  refine jd_iconst (v := 2) dL_law_926 (by decide) ?_
  refine jd_iaddN (a := 5 * k) (b := 2) dL_law_927 ?_
  refine jd_sld (n := (5 * k + 2)) (by omega) hL dL_law_928 ?_
  refine jd_callV (As := [.int ((jd_scr G ((5 * k + 1)))), .int ((jd_scr G ((5 * k + 2))))]) (rest := []) (ct_X4_revoke hm1 hI (jd_scr G (5 * k + 1)) (jd_scr G (5 * k + 2))) (jd_rv (w_mthis hm1) 9 rfl rfl) rfl q1680 q1681 q1682 q90 q1683 nX4_revoke dL_law_929 rfl rfl rfl (Nat.le_of_ble_eq_true rfl) ⟨(Nat.le_of_ble_eq_true rfl), (Nat.le_of_ble_eq_true rfl), by omega, by omega⟩ (fun rv1 hn1 hq1 => ?_) jd_nox
  obtain ⟨⟨w1, rfl, hv1, hx1⟩, ⟨g1, m1, hg1, hm2, ht1⟩, hf2⟩ := hq1
  obtain ⟨x1, rfl⟩ : ∃ x, w1 = Value.int x := by
    by_cases e : c_revoke κ (jd_scr G (5 * k + 1)) (jd_scr G (5 * k + 2)) = 0
    · exact ⟨_, hv1 e⟩
    · exact hx1 e
  have hw2 := hw1.of (fun j hj => hf2 j (Or.inl hj))
  have ho2 := (hf2 (40, 0) (Or.inr (by decide))).trans ho1.at
  have hI2 : ll_I (if c_revoke κ (jd_scr G (5 * k + 1)) (jd_scr G (5 * k + 2)) = 0 then k_revoke κ (tN (jd_scr G (5 * k + 1))) (tN (jd_scr G (5 * k + 2))) else κ) := by
    split
    · next e => exact P_revoke hI e
    · exact hI
  refine jd_istore (ls' := [_, _, _, _, _, _, _]) dL_law_932 (Nat.le_of_ble_eq_true rfl) rfl rfl ?_
  refine jd_aload_n dL_law_934 rfl ?_
  refine jd_pV (As := []) (rest := []) (show jd_Ct G mX4_thrown 0 0 0 [.ref (γ 0 0)] _ _ _ from by rw [← hg1]; exact ct_X4_thrown hm2) (jd_rv (show _ = some (γ 0 0, _) from hg1 ▸ w_mthis hm2) 9 rfl rfl) rfl q1506 q1507 q1508 q90 q1509 nX4_thrown dL_law_935 rfl rfl rfl (Nat.le_of_ble_eq_true rfl) ⟨(Nat.le_of_ble_eq_true rfl), (Nat.le_of_ble_eq_true rfl)⟩ ?_
  refine jd_top (w := .int (nI (c_revoke κ (jd_scr G (5 * k + 1)) (jd_scr G (5 * k + 2))))) (congrArg Value.int ht1) ?_
  refine jd_iload dL_law_938 rfl ?_
  refine jd_ncmp_eq (a := (c_revoke κ (jd_scr G (5 * k + 1)) (jd_scr G (5 * k + 2)))) (b := (c_revoke κ (jd_scr G (5 * k + 1)) (jd_scr G (5 * k + 2)))) (tgt := 945) dL_law_940 (by decide) (by omega) (by omega) (fun z3 => ?_) (fun z4 => ?_)
  · refine jd_iload dL_law_945 rfl ?_
    refine jd_nif_ne (a := (c_revoke κ (jd_scr G (5 * k + 1)) (jd_scr G (5 * k + 2)))) (tgt := 970) dL_law_947 (by decide) (by omega) (fun z5 => ?_) (fun z6 => ?_)
    · refine jd_goto (tgt := 1978) dL_law_970 (by decide) ?_
      refine jd_lsub [some (.ref (jd_k G 6)), some (.ref (β 0 0)), some (.ref (γ 0 0)), some (.ref (o)), some (.int (nI (5 * k))), none, none] ⟨rfl, rfl, rfl, rfl, rfl, trivial⟩ ?_
      exact jd_wk (kk b1 g1 _ _ hn1 _ _ hb1 hg1 hw2 hm2 hI2 ho2) (by omega) (by omega)
    · have hc0 : c_revoke κ (jd_scr G (5 * k + 1)) (jd_scr G (5 * k + 2)) = 0 := z6
      have hx2 : x1 = _ := Value.int.inj (hv1 hc0)
      have he := hna1 hc0
      refine jd_aload_n dL_law_950 rfl ?_
      refine jd_getN in_X6 ho2 0 q598 dL_law_951 rfl (Nat.le_of_ble_eq_true rfl) rfl ?_
      refine jd_iload dL_law_954 rfl ?_
      refine jd_mg1 964 (.long ((if x1 = 0 then 0 else 1))) (fun hj7 => ?_) ?_
      · refine jd_if_eq (tgt := 963) dL_law_956 (by decide) (fun z8 => ?_) (fun z9 => ?_)
        · refine jd_lconst (v := 0) dL_law_963 (by decide) ?_
          exact jd_top (congrArg Value.long (by rw [if_pos z8])) hj7
        · refine jd_lconst (v := 1) dL_law_959 (by decide) ?_
          refine jd_goto (tgt := 964) dL_law_960 (by decide) ?_
          exact jd_top (congrArg Value.long (by rw [if_neg z9])) hj7
      · refine jd_lcmp dL_law_964 ?_
        refine jd_if_eq (tgt := 970) dL_law_965 (by decide) (fun z10 => ?_) (fun z11 => ?_)
        · refine jd_goto (tgt := 1978) dL_law_970 (by decide) ?_
          refine jd_lsub [some (.ref (jd_k G 6)), some (.ref (β 0 0)), some (.ref (γ 0 0)), some (.ref (o)), some (.int (nI (5 * k))), none, none] ⟨rfl, rfl, rfl, rfl, rfl, trivial⟩ ?_
          exact jd_wk (kk b1 g1 _ _ hn1 _ _ hb1 hg1 hw2 hm2 hI2 ho2) (by omega) (by omega)
        · exact absurd (by rw [he, hx2]; exact lg_b) z11
  · exact absurd rfl z4

set_option maxRecDepth 20000 in
set_option maxHeartbeats 2000000 in
theorem law_10 {G : jd_G} {β γ : ll_B} {κ : ll_K} {μ : ll_U} {h : jd_H} (hw : WC G β κ h) (hm : WM G γ κ μ h) (hI : ll_I κ) {o : Nat} {n : Int64} {sv : Value} (ho : WO o n sv h) {k c s : Nat} (hk : 5 * k + 5 ≤ jd_k G 7) (hL : jd_k G 7 ≤ 320) {Q : Option Value → jd_H → Prop} {X : String → jd_H → Prop} (kk : law_k G β γ o k c s Q X) : jd_W G mL_law 20 (c + 2000) (s + 100000) 973 [some (.ref (jd_k G 6)), some (.ref (β 0 0)), some (.ref (γ 0 0)), some (.ref (o)), some (.int (nI (5 * k))), none, none] [] h Q X := by
  refine jd_aload_n dL_law_973 rfl ?_
  refine jd_aload_n dL_law_974 rfl ?_
  refine jd_iload dL_law_975 rfl ?_
  refine jd_iconst (v := 1) dL_law_977 (by decide) ?_
  refine jd_iaddN (a := 5 * k) (b := 1) dL_law_978 ?_
  refine jd_sld (n := (5 * k + 1)) (by omega) hL dL_law_979 ?_
  refine jd_aload_n dL_law_980 rfl ?_
  refine jd_iload dL_law_981 rfl ?_
  refine jd_iconst (v := 2) dL_law_983 (by decide) ?_
  refine jd_iaddN (a := 5 * k) (b := 2) dL_law_984 ?_
  refine jd_sld (n := (5 * k + 2)) (by omega) hL dL_law_985 ?_
  refine jd_aload_n dL_law_986 rfl ?_
  refine jd_iload dL_law_987 rfl ?_
  refine jd_iconst (v := 3) dL_law_989 (by decide) ?_
  refine jd_iaddN (a := 5 * k) (b := 3) dL_law_990 ?_
  refine jd_sld (n := (5 * k + 3)) (by omega) hL dL_law_991 ?_
  refine jd_aload_n dL_law_992 rfl ?_
  refine jd_callSH (As := [.ref (β 0 0), .int ((jd_scr G ((5 * k + 1)))), .int ((jd_scr G ((5 * k + 2)))), .int ((jd_scr G ((5 * k + 3)))), .ref (o)]) (rest := []) (ct_X0_join hw hI ho (jd_scr G (5 * k + 1)) (jd_scr G (5 * k + 2)) (jd_scr G (5 * k + 3))) rfl q989 q990 q79 q991 nX0_join dL_law_993 rfl rfl (Nat.le_of_ble_eq_true rfl) ⟨(Nat.le_of_ble_eq_true rfl), (Nat.le_of_ble_eq_true rfl), by omega, by omega⟩ (fun rv0 hn0 hq0 => ?_) jd_nox
  obtain ⟨rfl, ⟨b1, hb1, hw1⟩, ⟨n1, ho1, hna1⟩, hf1⟩ := hq0
  have hm1 := hm.out hf1
  have hle := le_join κ (jd_scr G (5 * k + 1)) (jd_scr G (5 * k + 2)) (jd_scr G (5 * k + 3))
  refine jd_istore (ls' := [_, _, _, _, _, _, _]) dL_law_996 (Nat.le_of_ble_eq_true rfl) rfl rfl ?_
  refine jd_aload_n dL_law_998 rfl ?_
  refine jd_aload_n dL_law_999 rfl ?_
  refine jd_iload dL_law_1000 rfl ?_
  refine jd_iconst (v := 1) dL_law_1002 (by decide) ?_
  refine jd_iaddN (a := 5 * k) (b := 1) dL_law_1003 ?_
  refine jd_sld (n := (5 * k + 1)) (by omega) hL dL_law_1004 ?_
  refine jd_aload_n dL_law_1005 rfl ?_
  refine jd_iload dL_law_1006 rfl ?_
  refine jd_iconst (v := 2) dL_law_1008 (by decide) ?_
  refine jd_iaddN (a := 5 * k) (b := 2) dL_law_1009 ?_
  refine jd_sld (n := (5 * k + 2)) (by omega) hL dL_law_1010 ?_
  refine jd_aload_n dL_law_1011 rfl ?_
  refine jd_iload dL_law_1012 rfl ?_
  refine jd_iconst (v := 3) dL_law_1014 (by decide) ?_
  refine jd_iaddN (a := 5 * k) (b := 3) dL_law_1015 ?_
  refine jd_sld (n := (5 * k + 3)) (by omega) hL dL_law_1016 ?_
  refine jd_callV (As := [.int ((jd_scr G ((5 * k + 1)))), .int ((jd_scr G ((5 * k + 2)))), .int ((jd_scr G ((5 * k + 3))))]) (rest := []) (ct_X4_join hm1 hI (jd_scr G (5 * k + 1)) (jd_scr G (5 * k + 2)) (jd_scr G (5 * k + 3))) (jd_rv (w_mthis hm1) 9 rfl rfl) rfl q1684 q1685 q1686 q90 q1687 nX4_join dL_law_1017 rfl rfl rfl (Nat.le_of_ble_eq_true rfl) ⟨(Nat.le_of_ble_eq_true rfl), (Nat.le_of_ble_eq_true rfl), by omega, by omega⟩ (fun rv1 hn1 hq1 => ?_) jd_nox
  obtain ⟨⟨w1, rfl, hv1, hx1⟩, ⟨g1, m1, hg1, hm2, ht1⟩, hf2⟩ := hq1
  obtain ⟨x1, rfl⟩ : ∃ x, w1 = Value.int x := by
    by_cases e : c_join κ (jd_scr G (5 * k + 1)) (jd_scr G (5 * k + 2)) (jd_scr G (5 * k + 3)) = 0
    · exact ⟨_, hv1 e⟩
    · exact hx1 e
  have hw2 := hw1.of (fun j hj => hf2 j (Or.inl hj))
  have ho2 := (hf2 (40, 0) (Or.inr (by decide))).trans ho1.at
  have hI2 : ll_I (if c_join κ (jd_scr G (5 * k + 1)) (jd_scr G (5 * k + 2)) (jd_scr G (5 * k + 3)) = 0 then k_join κ (tN (jd_scr G (5 * k + 1))) (tN (jd_scr G (5 * k + 2))) (jd_scr G (5 * k + 3)) else κ) := by
    split
    · next e => exact P_join hI e
    · exact hI
  refine jd_istore (ls' := [_, _, _, _, _, _, _]) dL_law_1020 (Nat.le_of_ble_eq_true rfl) rfl rfl ?_
  refine jd_aload_n dL_law_1022 rfl ?_
  refine jd_pV (As := []) (rest := []) (show jd_Ct G mX4_thrown 0 0 0 [.ref (γ 0 0)] _ _ _ from by rw [← hg1]; exact ct_X4_thrown hm2) (jd_rv (show _ = some (γ 0 0, _) from hg1 ▸ w_mthis hm2) 9 rfl rfl) rfl q1506 q1507 q1508 q90 q1509 nX4_thrown dL_law_1023 rfl rfl rfl (Nat.le_of_ble_eq_true rfl) ⟨(Nat.le_of_ble_eq_true rfl), (Nat.le_of_ble_eq_true rfl)⟩ ?_
  refine jd_top (w := .int (nI (c_join κ (jd_scr G (5 * k + 1)) (jd_scr G (5 * k + 2)) (jd_scr G (5 * k + 3))))) (congrArg Value.int ht1) ?_
  refine jd_iload dL_law_1026 rfl ?_
  refine jd_ncmp_eq (a := (c_join κ (jd_scr G (5 * k + 1)) (jd_scr G (5 * k + 2)) (jd_scr G (5 * k + 3)))) (b := (c_join κ (jd_scr G (5 * k + 1)) (jd_scr G (5 * k + 2)) (jd_scr G (5 * k + 3)))) (tgt := 1033) dL_law_1028 (by decide) (by omega) (by omega) (fun z3 => ?_) (fun z4 => ?_)
  · refine jd_iload dL_law_1033 rfl ?_
    refine jd_nif_ne (a := (c_join κ (jd_scr G (5 * k + 1)) (jd_scr G (5 * k + 2)) (jd_scr G (5 * k + 3)))) (tgt := 1051) dL_law_1035 (by decide) (by omega) (fun z5 => ?_) (fun z6 => ?_)
    · refine jd_goto (tgt := 1978) dL_law_1051 (by decide) ?_
      refine jd_lsub [some (.ref (jd_k G 6)), some (.ref (β 0 0)), some (.ref (γ 0 0)), some (.ref (o)), some (.int (nI (5 * k))), none, none] ⟨rfl, rfl, rfl, rfl, rfl, trivial⟩ ?_
      exact jd_wk (kk b1 g1 _ _ hn1 _ _ hb1 hg1 hw2 hm2 hI2 ho2) (by omega) (by omega)
    · have hc0 : c_join κ (jd_scr G (5 * k + 1)) (jd_scr G (5 * k + 2)) (jd_scr G (5 * k + 3)) = 0 := z6
      have hx2 : x1 = _ := Value.int.inj (hv1 hc0)
      have he : n1 = x1.toInt64 := by rw [hna1 hc0, hx2]
      refine jd_aload_n dL_law_1038 rfl ?_
      refine jd_getN in_X6 ho2 0 q598 dL_law_1039 rfl (Nat.le_of_ble_eq_true rfl) rfl ?_
      refine jd_iload dL_law_1042 rfl ?_
      refine jd_i2l dL_law_1044 ?_
      refine jd_lcmp dL_law_1045 ?_
      refine jd_if_eq (tgt := 1051) dL_law_1046 (by decide) (fun z7 => ?_) (fun z8 => ?_)
      · refine jd_goto (tgt := 1978) dL_law_1051 (by decide) ?_
        refine jd_lsub [some (.ref (jd_k G 6)), some (.ref (β 0 0)), some (.ref (γ 0 0)), some (.ref (o)), some (.int (nI (5 * k))), none, none] ⟨rfl, rfl, rfl, rfl, rfl, trivial⟩ ?_
        exact jd_wk (kk b1 g1 _ _ hn1 _ _ hb1 hg1 hw2 hm2 hI2 ho2) (by omega) (by omega)
      · exact absurd (by rw [he]; exact lg_self) z8
  · exact absurd rfl z4

set_option maxRecDepth 20000 in
set_option maxHeartbeats 2000000 in
theorem law_11 {G : jd_G} {β γ : ll_B} {κ : ll_K} {μ : ll_U} {h : jd_H} (hw : WC G β κ h) (hm : WM G γ κ μ h) (hI : ll_I κ) {o : Nat} {n : Int64} {sv : Value} (ho : WO o n sv h) {k c s : Nat} (hk : 5 * k + 5 ≤ jd_k G 7) (hL : jd_k G 7 ≤ 320) {Q : Option Value → jd_H → Prop} {X : String → jd_H → Prop} (kk : law_k G β γ o k c s Q X) : jd_W G mL_law 20 (c + 2000) (s + 100000) 1054 [some (.ref (jd_k G 6)), some (.ref (β 0 0)), some (.ref (γ 0 0)), some (.ref (o)), some (.int (nI (5 * k))), none, none] [] h Q X := by
  refine jd_aload_n dL_law_1054 rfl ?_
  refine jd_aload_n dL_law_1055 rfl ?_
  refine jd_iload dL_law_1056 rfl ?_
  refine jd_iconst (v := 1) dL_law_1058 (by decide) ?_
  refine jd_iaddN (a := 5 * k) (b := 1) dL_law_1059 ?_
  refine jd_sld (n := (5 * k + 1)) (by omega) hL dL_law_1060 ?_
  refine jd_aload_n dL_law_1061 rfl ?_
  refine jd_callSH (As := [.ref (β 0 0), .int ((jd_scr G ((5 * k + 1)))), .ref (o)]) (rest := []) (ct_X0_leave hw hI ho (jd_scr G (5 * k + 1))) rfl q1017 q1018 q79 q1019 nX0_leave dL_law_1062 rfl rfl (Nat.le_of_ble_eq_true rfl) ⟨(Nat.le_of_ble_eq_true rfl), (Nat.le_of_ble_eq_true rfl), by omega, by omega⟩ (fun rv0 hn0 hq0 => ?_) jd_nox
  obtain ⟨rfl, ⟨b1, hb1, hw1⟩, ⟨n1, ho1, hna1⟩, hf1⟩ := hq0
  have hm1 := hm.out hf1
  have hle := le_leave κ (jd_scr G (5 * k + 1))
  refine jd_istore (ls' := [_, _, _, _, _, _, _]) dL_law_1065 (Nat.le_of_ble_eq_true rfl) rfl rfl ?_
  refine jd_aload_n dL_law_1067 rfl ?_
  refine jd_aload_n dL_law_1068 rfl ?_
  refine jd_iload dL_law_1069 rfl ?_
  refine jd_iconst (v := 1) dL_law_1071 (by decide) ?_
  refine jd_iaddN (a := 5 * k) (b := 1) dL_law_1072 ?_
  refine jd_sld (n := (5 * k + 1)) (by omega) hL dL_law_1073 ?_
  refine jd_callV (As := [.int ((jd_scr G ((5 * k + 1))))]) (rest := []) (ct_X4_leave hm1 hI (jd_scr G (5 * k + 1))) (jd_rv (w_mthis hm1) 9 rfl rfl) rfl q1742 q1743 q1744 q90 q1745 nX4_leave dL_law_1074 rfl rfl rfl (Nat.le_of_ble_eq_true rfl) ⟨(Nat.le_of_ble_eq_true rfl), (Nat.le_of_ble_eq_true rfl), by omega, by omega⟩ (fun rv1 hn1 hq1 => ?_) jd_nox
  obtain ⟨⟨w1, rfl, hv1, hx1⟩, ⟨g1, m1, hg1, hm2, ht1⟩, hf2⟩ := hq1
  obtain ⟨x1, rfl⟩ : ∃ x, w1 = Value.int x := by
    by_cases e : c_leave κ (jd_scr G (5 * k + 1)) = 0
    · exact ⟨_, hv1 e⟩
    · exact hx1 e
  have hw2 := hw1.of (fun j hj => hf2 j (Or.inl hj))
  have ho2 := (hf2 (40, 0) (Or.inr (by decide))).trans ho1.at
  have hI2 : ll_I (if c_leave κ (jd_scr G (5 * k + 1)) = 0 then k_leave κ (tN (jd_scr G (5 * k + 1))) else κ) := by
    split
    · next e => exact P_leave hI e
    · exact hI
  refine jd_istore (ls' := [_, _, _, _, _, _, _]) dL_law_1077 (Nat.le_of_ble_eq_true rfl) rfl rfl ?_
  refine jd_aload_n dL_law_1079 rfl ?_
  refine jd_pV (As := []) (rest := []) (show jd_Ct G mX4_thrown 0 0 0 [.ref (γ 0 0)] _ _ _ from by rw [← hg1]; exact ct_X4_thrown hm2) (jd_rv (show _ = some (γ 0 0, _) from hg1 ▸ w_mthis hm2) 9 rfl rfl) rfl q1506 q1507 q1508 q90 q1509 nX4_thrown dL_law_1080 rfl rfl rfl (Nat.le_of_ble_eq_true rfl) ⟨(Nat.le_of_ble_eq_true rfl), (Nat.le_of_ble_eq_true rfl)⟩ ?_
  refine jd_top (w := .int (nI (c_leave κ (jd_scr G (5 * k + 1))))) (congrArg Value.int ht1) ?_
  refine jd_iload dL_law_1083 rfl ?_
  refine jd_ncmp_eq (a := (c_leave κ (jd_scr G (5 * k + 1)))) (b := (c_leave κ (jd_scr G (5 * k + 1)))) (tgt := 1090) dL_law_1085 (by decide) (by omega) (by omega) (fun z3 => ?_) (fun z4 => ?_)
  · refine jd_iload dL_law_1090 rfl ?_
    refine jd_nif_ne (a := (c_leave κ (jd_scr G (5 * k + 1)))) (tgt := 1108) dL_law_1092 (by decide) (by omega) (fun z5 => ?_) (fun z6 => ?_)
    · refine jd_goto (tgt := 1978) dL_law_1108 (by decide) ?_
      refine jd_lsub [some (.ref (jd_k G 6)), some (.ref (β 0 0)), some (.ref (γ 0 0)), some (.ref (o)), some (.int (nI (5 * k))), none, none] ⟨rfl, rfl, rfl, rfl, rfl, trivial⟩ ?_
      exact jd_wk (kk b1 g1 _ _ hn1 _ _ hb1 hg1 hw2 hm2 hI2 ho2) (by omega) (by omega)
    · have hc0 : c_leave κ (jd_scr G (5 * k + 1)) = 0 := z6
      have hx2 : x1 = _ := Value.int.inj (hv1 hc0)
      have he : n1 = x1.toInt64 := by rw [hna1 hc0, hx2]
      refine jd_aload_n dL_law_1095 rfl ?_
      refine jd_getN in_X6 ho2 0 q598 dL_law_1096 rfl (Nat.le_of_ble_eq_true rfl) rfl ?_
      refine jd_iload dL_law_1099 rfl ?_
      refine jd_i2l dL_law_1101 ?_
      refine jd_lcmp dL_law_1102 ?_
      refine jd_if_eq (tgt := 1108) dL_law_1103 (by decide) (fun z7 => ?_) (fun z8 => ?_)
      · refine jd_goto (tgt := 1978) dL_law_1108 (by decide) ?_
        refine jd_lsub [some (.ref (jd_k G 6)), some (.ref (β 0 0)), some (.ref (γ 0 0)), some (.ref (o)), some (.int (nI (5 * k))), none, none] ⟨rfl, rfl, rfl, rfl, rfl, trivial⟩ ?_
        exact jd_wk (kk b1 g1 _ _ hn1 _ _ hb1 hg1 hw2 hm2 hI2 ho2) (by omega) (by omega)
      · exact absurd (by rw [he]; exact lg_self) z8
  · exact absurd rfl z4

set_option maxRecDepth 20000 in
set_option maxHeartbeats 2000000 in
theorem law_12 {G : jd_G} {β γ : ll_B} {κ : ll_K} {μ : ll_U} {h : jd_H} (hw : WC G β κ h) (hm : WM G γ κ μ h) (hI : ll_I κ) {o : Nat} {n : Int64} {sv : Value} (ho : WO o n sv h) {k c s : Nat} (hk : 5 * k + 5 ≤ jd_k G 7) (hL : jd_k G 7 ≤ 320) {Q : Option Value → jd_H → Prop} {X : String → jd_H → Prop} (kk : law_k G β γ o k c s Q X) : jd_W G mL_law 20 (c + 2000) (s + 100000) 1111 [some (.ref (jd_k G 6)), some (.ref (β 0 0)), some (.ref (γ 0 0)), some (.ref (o)), some (.int (nI (5 * k))), none, none] [] h Q X := by
  refine jd_aload_n dL_law_1111 rfl ?_
  refine jd_aload_n dL_law_1112 rfl ?_
  refine jd_iload dL_law_1113 rfl ?_
  refine jd_iconst (v := 1) dL_law_1115 (by decide) ?_
  refine jd_iaddN (a := 5 * k) (b := 1) dL_law_1116 ?_
  refine jd_sld (n := (5 * k + 1)) (by omega) hL dL_law_1117 ?_
  refine jd_aload_n dL_law_1118 rfl ?_
  refine jd_callSH (As := [.ref (β 0 0), .int ((jd_scr G ((5 * k + 1)))), .ref (o)]) (rest := []) (ct_X0_yawn hw hI ho (jd_scr G (5 * k + 1))) rfl q1030 q1031 q79 q1032 nX0_yawn dL_law_1119 rfl rfl (Nat.le_of_ble_eq_true rfl) ⟨(Nat.le_of_ble_eq_true rfl), (Nat.le_of_ble_eq_true rfl), by omega, by omega⟩ (fun rv0 hn0 hq0 => ?_) jd_nox
  obtain ⟨rfl, ⟨b1, hb1, hw1⟩, ⟨n1, ho1, hna1⟩, hf1⟩ := hq0
  have hm1 := hm.out hf1
  have hle := le_yawn κ (jd_scr G (5 * k + 1))
  refine jd_istore (ls' := [_, _, _, _, _, _, _]) dL_law_1122 (Nat.le_of_ble_eq_true rfl) rfl rfl ?_
  refine jd_aload_n dL_law_1124 rfl ?_
  refine jd_aload_n dL_law_1125 rfl ?_
  refine jd_iload dL_law_1126 rfl ?_
  refine jd_iconst (v := 1) dL_law_1128 (by decide) ?_
  refine jd_iaddN (a := 5 * k) (b := 1) dL_law_1129 ?_
  refine jd_sld (n := (5 * k + 1)) (by omega) hL dL_law_1130 ?_
  refine jd_callV (As := [.int ((jd_scr G ((5 * k + 1))))]) (rest := []) (ct_X4_yawn hm1 hI (jd_scr G (5 * k + 1))) (jd_rv (w_mthis hm1) 9 rfl rfl) rfl q1759 q1760 q1761 q90 q1762 nX4_yawn dL_law_1131 rfl rfl rfl (Nat.le_of_ble_eq_true rfl) ⟨(Nat.le_of_ble_eq_true rfl), (Nat.le_of_ble_eq_true rfl), by omega, by omega⟩ (fun rv1 hn1 hq1 => ?_) jd_nox
  obtain ⟨⟨w1, rfl, hv1, hx1⟩, ⟨g1, m1, hg1, hm2, ht1⟩, hf2⟩ := hq1
  obtain ⟨x1, rfl⟩ : ∃ x, w1 = Value.int x := by
    by_cases e : c_yawn κ (jd_scr G (5 * k + 1)) = 0
    · exact ⟨_, hv1 e⟩
    · exact hx1 e
  have hw2 := hw1.of (fun j hj => hf2 j (Or.inl hj))
  have ho2 := (hf2 (40, 0) (Or.inr (by decide))).trans ho1.at
  have hI2 : ll_I (if c_yawn κ (jd_scr G (5 * k + 1)) = 0 then k_yawn κ (tN (jd_scr G (5 * k + 1))) else κ) := by
    split
    · next e => exact P_yawn hI e
    · exact hI
  refine jd_istore (ls' := [_, _, _, _, _, _, _]) dL_law_1134 (Nat.le_of_ble_eq_true rfl) rfl rfl ?_
  refine jd_aload_n dL_law_1136 rfl ?_
  refine jd_pV (As := []) (rest := []) (show jd_Ct G mX4_thrown 0 0 0 [.ref (γ 0 0)] _ _ _ from by rw [← hg1]; exact ct_X4_thrown hm2) (jd_rv (show _ = some (γ 0 0, _) from hg1 ▸ w_mthis hm2) 9 rfl rfl) rfl q1506 q1507 q1508 q90 q1509 nX4_thrown dL_law_1137 rfl rfl rfl (Nat.le_of_ble_eq_true rfl) ⟨(Nat.le_of_ble_eq_true rfl), (Nat.le_of_ble_eq_true rfl)⟩ ?_
  refine jd_top (w := .int (nI (c_yawn κ (jd_scr G (5 * k + 1))))) (congrArg Value.int ht1) ?_
  refine jd_iload dL_law_1140 rfl ?_
  refine jd_ncmp_eq (a := (c_yawn κ (jd_scr G (5 * k + 1)))) (b := (c_yawn κ (jd_scr G (5 * k + 1)))) (tgt := 1147) dL_law_1142 (by decide) (by omega) (by omega) (fun z3 => ?_) (fun z4 => ?_)
  · refine jd_iload dL_law_1147 rfl ?_
    refine jd_nif_ne (a := (c_yawn κ (jd_scr G (5 * k + 1)))) (tgt := 1165) dL_law_1149 (by decide) (by omega) (fun z5 => ?_) (fun z6 => ?_)
    · refine jd_goto (tgt := 1978) dL_law_1165 (by decide) ?_
      refine jd_lsub [some (.ref (jd_k G 6)), some (.ref (β 0 0)), some (.ref (γ 0 0)), some (.ref (o)), some (.int (nI (5 * k))), none, none] ⟨rfl, rfl, rfl, rfl, rfl, trivial⟩ ?_
      exact jd_wk (kk b1 g1 _ _ hn1 _ _ hb1 hg1 hw2 hm2 hI2 ho2) (by omega) (by omega)
    · have hc0 : c_yawn κ (jd_scr G (5 * k + 1)) = 0 := z6
      have hx2 : x1 = _ := Value.int.inj (hv1 hc0)
      have he : n1 = x1.toInt64 := by rw [hna1 hc0, hx2]
      refine jd_aload_n dL_law_1152 rfl ?_
      refine jd_getN in_X6 ho2 0 q598 dL_law_1153 rfl (Nat.le_of_ble_eq_true rfl) rfl ?_
      refine jd_iload dL_law_1156 rfl ?_
      refine jd_i2l dL_law_1158 ?_
      refine jd_lcmp dL_law_1159 ?_
      refine jd_if_eq (tgt := 1165) dL_law_1160 (by decide) (fun z7 => ?_) (fun z8 => ?_)
      · refine jd_goto (tgt := 1978) dL_law_1165 (by decide) ?_
        refine jd_lsub [some (.ref (jd_k G 6)), some (.ref (β 0 0)), some (.ref (γ 0 0)), some (.ref (o)), some (.int (nI (5 * k))), none, none] ⟨rfl, rfl, rfl, rfl, rfl, trivial⟩ ?_
        exact jd_wk (kk b1 g1 _ _ hn1 _ _ hb1 hg1 hw2 hm2 hI2 ho2) (by omega) (by omega)
      · exact absurd (by rw [he]; exact lg_self) z8
  · exact absurd rfl z4

set_option maxRecDepth 20000 in
set_option maxHeartbeats 2000000 in
theorem law_13 {G : jd_G} {β γ : ll_B} {κ : ll_K} {μ : ll_U} {h : jd_H} (hw : WC G β κ h) (hm : WM G γ κ μ h) (hI : ll_I κ) {o : Nat} {n : Int64} {sv : Value} (ho : WO o n sv h) {k c s : Nat} (hk : 5 * k + 5 ≤ jd_k G 7) (hL : jd_k G 7 ≤ 320) {Q : Option Value → jd_H → Prop} {X : String → jd_H → Prop} (kk : law_k G β γ o k c s Q X) : jd_W G mL_law 20 (c + 2000) (s + 100000) 1168 [some (.ref (jd_k G 6)), some (.ref (β 0 0)), some (.ref (γ 0 0)), some (.ref (o)), some (.int (nI (5 * k))), none, none] [] h Q X := by
  refine jd_aload_n dL_law_1168 rfl ?_
  refine jd_aload_n dL_law_1169 rfl ?_
  refine jd_iload dL_law_1170 rfl ?_
  refine jd_iconst (v := 1) dL_law_1172 (by decide) ?_
  refine jd_iaddN (a := 5 * k) (b := 1) dL_law_1173 ?_
  refine jd_sld (n := (5 * k + 1)) (by omega) hL dL_law_1174 ?_
  refine jd_aload_n dL_law_1175 rfl ?_
  refine jd_callSH (As := [.ref (β 0 0), .int ((jd_scr G ((5 * k + 1)))), .ref (o)]) (rest := []) (ct_X0_appeal hw hI ho (jd_scr G (5 * k + 1))) rfl q1096 q1097 q79 q1098 nX0_appeal dL_law_1176 rfl rfl (Nat.le_of_ble_eq_true rfl) ⟨(Nat.le_of_ble_eq_true rfl), (Nat.le_of_ble_eq_true rfl), by omega, by omega⟩ (fun rv0 hn0 hq0 => ?_) jd_nox
  obtain ⟨rfl, ⟨b1, hb1, hw1⟩, ⟨n1, ho1, hna1⟩, hf1⟩ := hq0
  have hm1 := hm.out hf1
  have hle := le_appeal κ (jd_scr G (5 * k + 1))
  refine jd_istore (ls' := [_, _, _, _, _, _, _]) dL_law_1179 (Nat.le_of_ble_eq_true rfl) rfl rfl ?_
  refine jd_aload_n dL_law_1181 rfl ?_
  refine jd_aload_n dL_law_1182 rfl ?_
  refine jd_iload dL_law_1183 rfl ?_
  refine jd_iconst (v := 1) dL_law_1185 (by decide) ?_
  refine jd_iaddN (a := 5 * k) (b := 1) dL_law_1186 ?_
  refine jd_sld (n := (5 * k + 1)) (by omega) hL dL_law_1187 ?_
  refine jd_callV (As := [.int ((jd_scr G ((5 * k + 1))))]) (rest := []) (ct_X4_appeal hm1 hI (jd_scr G (5 * k + 1))) (jd_rv (w_mthis hm1) 9 rfl rfl) rfl q1802 q1803 q1804 q90 q1805 nX4_appeal dL_law_1188 rfl rfl rfl (Nat.le_of_ble_eq_true rfl) ⟨(Nat.le_of_ble_eq_true rfl), (Nat.le_of_ble_eq_true rfl), by omega, by omega⟩ (fun rv1 hn1 hq1 => ?_) jd_nox
  obtain ⟨⟨w1, rfl, hv1, hx1⟩, ⟨g1, m1, hg1, hm2, ht1⟩, hf2⟩ := hq1
  obtain ⟨x1, rfl⟩ : ∃ x, w1 = Value.int x := by
    by_cases e : c_appeal κ (jd_scr G (5 * k + 1)) = 0
    · exact ⟨_, hv1 e⟩
    · exact hx1 e
  have hw2 := hw1.of (fun j hj => hf2 j (Or.inl hj))
  have ho2 := (hf2 (40, 0) (Or.inr (by decide))).trans ho1.at
  have hI2 : ll_I (if c_appeal κ (jd_scr G (5 * k + 1)) = 0 then if apOk κ (tN (jd_scr G (5 * k + 1))) ((pStore κ (tN (jd_scr G (5 * k + 1)))).getD 0) ((pBy κ (tN (jd_scr G (5 * k + 1)))).getD 0) then k_appeal κ (tN (jd_scr G (5 * k + 1))) ((pStore κ (tN (jd_scr G (5 * k + 1)))).getD 0) else κ else κ) := by
    split
    · next e => exact P_appeal hI e
    · exact hI
  refine jd_istore (ls' := [_, _, _, _, _, _, _]) dL_law_1191 (Nat.le_of_ble_eq_true rfl) rfl rfl ?_
  refine jd_aload_n dL_law_1193 rfl ?_
  refine jd_pV (As := []) (rest := []) (show jd_Ct G mX4_thrown 0 0 0 [.ref (γ 0 0)] _ _ _ from by rw [← hg1]; exact ct_X4_thrown hm2) (jd_rv (show _ = some (γ 0 0, _) from hg1 ▸ w_mthis hm2) 9 rfl rfl) rfl q1506 q1507 q1508 q90 q1509 nX4_thrown dL_law_1194 rfl rfl rfl (Nat.le_of_ble_eq_true rfl) ⟨(Nat.le_of_ble_eq_true rfl), (Nat.le_of_ble_eq_true rfl)⟩ ?_
  refine jd_top (w := .int (nI (c_appeal κ (jd_scr G (5 * k + 1))))) (congrArg Value.int ht1) ?_
  refine jd_iload dL_law_1197 rfl ?_
  refine jd_ncmp_eq (a := (c_appeal κ (jd_scr G (5 * k + 1)))) (b := (c_appeal κ (jd_scr G (5 * k + 1)))) (tgt := 1204) dL_law_1199 (by decide) (by omega) (by omega) (fun z3 => ?_) (fun z4 => ?_)
  · refine jd_iload dL_law_1204 rfl ?_
    refine jd_nif_ne (a := (c_appeal κ (jd_scr G (5 * k + 1)))) (tgt := 1229) dL_law_1206 (by decide) (by omega) (fun z5 => ?_) (fun z6 => ?_)
    · refine jd_goto (tgt := 1978) dL_law_1229 (by decide) ?_
      refine jd_lsub [some (.ref (jd_k G 6)), some (.ref (β 0 0)), some (.ref (γ 0 0)), some (.ref (o)), some (.int (nI (5 * k))), none, none] ⟨rfl, rfl, rfl, rfl, rfl, trivial⟩ ?_
      exact jd_wk (kk b1 g1 _ _ hn1 _ _ hb1 hg1 hw2 hm2 hI2 ho2) (by omega) (by omega)
    · have hc0 : c_appeal κ (jd_scr G (5 * k + 1)) = 0 := z6
      have hx2 : x1 = _ := Value.int.inj (hv1 hc0)
      have he := hna1 hc0
      refine jd_aload_n dL_law_1209 rfl ?_
      refine jd_getN in_X6 ho2 0 q598 dL_law_1210 rfl (Nat.le_of_ble_eq_true rfl) rfl ?_
      refine jd_iload dL_law_1213 rfl ?_
      refine jd_mg1 1223 (.long ((if x1 = 0 then 0 else 1))) (fun hj7 => ?_) ?_
      · refine jd_if_eq (tgt := 1222) dL_law_1215 (by decide) (fun z8 => ?_) (fun z9 => ?_)
        · refine jd_lconst (v := 0) dL_law_1222 (by decide) ?_
          exact jd_top (congrArg Value.long (by rw [if_pos z8])) hj7
        · refine jd_lconst (v := 1) dL_law_1218 (by decide) ?_
          refine jd_goto (tgt := 1223) dL_law_1219 (by decide) ?_
          exact jd_top (congrArg Value.long (by rw [if_neg z9])) hj7
      · refine jd_lcmp dL_law_1223 ?_
        refine jd_if_eq (tgt := 1229) dL_law_1224 (by decide) (fun z10 => ?_) (fun z11 => ?_)
        · refine jd_goto (tgt := 1978) dL_law_1229 (by decide) ?_
          refine jd_lsub [some (.ref (jd_k G 6)), some (.ref (β 0 0)), some (.ref (γ 0 0)), some (.ref (o)), some (.int (nI (5 * k))), none, none] ⟨rfl, rfl, rfl, rfl, rfl, trivial⟩ ?_
          exact jd_wk (kk b1 g1 _ _ hn1 _ _ hb1 hg1 hw2 hm2 hI2 ho2) (by omega) (by omega)
        · exact absurd (by rw [he, hx2]; exact lg_b) z11
  · exact absurd rfl z4

set_option maxRecDepth 20000 in
set_option maxHeartbeats 2000000 in
theorem law_14 {G : jd_G} {β γ : ll_B} {κ : ll_K} {μ : ll_U} {h : jd_H} (hw : WC G β κ h) (hm : WM G γ κ μ h) (hI : ll_I κ) {o : Nat} {n : Int64} {sv : Value} (ho : WO o n sv h) {k c s : Nat} (hk : 5 * k + 5 ≤ jd_k G 7) (hL : jd_k G 7 ≤ 320) {Q : Option Value → jd_H → Prop} {X : String → jd_H → Prop} (kk : law_k G β γ o k c s Q X) : jd_W G mL_law 20 (c + 2000) (s + 100000) 1232 [some (.ref (jd_k G 6)), some (.ref (β 0 0)), some (.ref (γ 0 0)), some (.ref (o)), some (.int (nI (5 * k))), none, none] [] h Q X := by
  refine jd_aload_n dL_law_1232 rfl ?_
  refine jd_aload_n dL_law_1233 rfl ?_
  refine jd_iload dL_law_1234 rfl ?_
  refine jd_iconst (v := 1) dL_law_1236 (by decide) ?_
  refine jd_iaddN (a := 5 * k) (b := 1) dL_law_1237 ?_
  refine jd_sld (n := (5 * k + 1)) (by omega) hL dL_law_1238 ?_
  refine jd_aload_n dL_law_1239 rfl ?_
  refine jd_callSH (As := [.ref (β 0 0), .int ((jd_scr G ((5 * k + 1)))), .ref (o)]) (rest := []) (ct_X0_pass hw hI ho (jd_scr G (5 * k + 1))) rfl q1103 q1104 q79 q1105 nX0_pass dL_law_1240 rfl rfl (Nat.le_of_ble_eq_true rfl) ⟨(Nat.le_of_ble_eq_true rfl), (Nat.le_of_ble_eq_true rfl), by omega, by omega⟩ (fun rv0 hn0 hq0 => ?_) jd_nox
  obtain ⟨rfl, ⟨b1, hb1, hw1⟩, ⟨n1, ho1, hna1⟩, hf1⟩ := hq0
  have hm1 := hm.out hf1
  have hle := le_pass κ (jd_scr G (5 * k + 1))
  refine jd_istore (ls' := [_, _, _, _, _, _, _]) dL_law_1243 (Nat.le_of_ble_eq_true rfl) rfl rfl ?_
  refine jd_aload_n dL_law_1245 rfl ?_
  refine jd_aload_n dL_law_1246 rfl ?_
  refine jd_iload dL_law_1247 rfl ?_
  refine jd_iconst (v := 1) dL_law_1249 (by decide) ?_
  refine jd_iaddN (a := 5 * k) (b := 1) dL_law_1250 ?_
  refine jd_sld (n := (5 * k + 1)) (by omega) hL dL_law_1251 ?_
  refine jd_callV (As := [.int ((jd_scr G ((5 * k + 1))))]) (rest := []) (ct_X4_pass hm1 hI (jd_scr G (5 * k + 1))) (jd_rv (w_mthis hm1) 9 rfl rfl) rfl q1806 q1807 q1808 q90 q1809 nX4_pass dL_law_1252 rfl rfl rfl (Nat.le_of_ble_eq_true rfl) ⟨(Nat.le_of_ble_eq_true rfl), (Nat.le_of_ble_eq_true rfl), by omega, by omega⟩ (fun rv1 hn1 hq1 => ?_) jd_nox
  obtain ⟨⟨w1, rfl, hv1, hx1⟩, ⟨g1, m1, hg1, hm2, ht1⟩, hf2⟩ := hq1
  obtain ⟨x1, rfl⟩ : ∃ x, w1 = Value.int x := by
    by_cases e : c_pass κ (jd_scr G (5 * k + 1)) = 0
    · exact ⟨_, hv1 e⟩
    · exact hx1 e
  have hw2 := hw1.of (fun j hj => hf2 j (Or.inl hj))
  have ho2 := (hf2 (40, 0) (Or.inr (by decide))).trans ho1.at
  have hI2 : ll_I (if c_pass κ (jd_scr G (5 * k + 1)) = 0 then k_pass κ (jd_scr G (5 * k + 1)) else κ) := by
    split
    · next e => exact P_pass hI e
    · exact hI
  refine jd_istore (ls' := [_, _, _, _, _, _, _]) dL_law_1255 (Nat.le_of_ble_eq_true rfl) rfl rfl ?_
  refine jd_aload_n dL_law_1257 rfl ?_
  refine jd_pV (As := []) (rest := []) (show jd_Ct G mX4_thrown 0 0 0 [.ref (γ 0 0)] _ _ _ from by rw [← hg1]; exact ct_X4_thrown hm2) (jd_rv (show _ = some (γ 0 0, _) from hg1 ▸ w_mthis hm2) 9 rfl rfl) rfl q1506 q1507 q1508 q90 q1509 nX4_thrown dL_law_1258 rfl rfl rfl (Nat.le_of_ble_eq_true rfl) ⟨(Nat.le_of_ble_eq_true rfl), (Nat.le_of_ble_eq_true rfl)⟩ ?_
  refine jd_top (w := .int (nI (c_pass κ (jd_scr G (5 * k + 1))))) (congrArg Value.int ht1) ?_
  refine jd_iload dL_law_1261 rfl ?_
  refine jd_ncmp_eq (a := (c_pass κ (jd_scr G (5 * k + 1)))) (b := (c_pass κ (jd_scr G (5 * k + 1)))) (tgt := 1268) dL_law_1263 (by decide) (by omega) (by omega) (fun z3 => ?_) (fun z4 => ?_)
  · refine jd_iload dL_law_1268 rfl ?_
    refine jd_nif_ne (a := (c_pass κ (jd_scr G (5 * k + 1)))) (tgt := 1286) dL_law_1270 (by decide) (by omega) (fun z5 => ?_) (fun z6 => ?_)
    · refine jd_goto (tgt := 1978) dL_law_1286 (by decide) ?_
      refine jd_lsub [some (.ref (jd_k G 6)), some (.ref (β 0 0)), some (.ref (γ 0 0)), some (.ref (o)), some (.int (nI (5 * k))), none, none] ⟨rfl, rfl, rfl, rfl, rfl, trivial⟩ ?_
      exact jd_wk (kk b1 g1 _ _ hn1 _ _ hb1 hg1 hw2 hm2 hI2 ho2) (by omega) (by omega)
    · have hc0 : c_pass κ (jd_scr G (5 * k + 1)) = 0 := z6
      have hx2 : x1 = _ := Value.int.inj (hv1 hc0)
      have he : n1 = x1.toInt64 := by rw [hna1 hc0, hx2]
      refine jd_aload_n dL_law_1273 rfl ?_
      refine jd_getN in_X6 ho2 0 q598 dL_law_1274 rfl (Nat.le_of_ble_eq_true rfl) rfl ?_
      refine jd_iload dL_law_1277 rfl ?_
      refine jd_i2l dL_law_1279 ?_
      refine jd_lcmp dL_law_1280 ?_
      refine jd_if_eq (tgt := 1286) dL_law_1281 (by decide) (fun z7 => ?_) (fun z8 => ?_)
      · refine jd_goto (tgt := 1978) dL_law_1286 (by decide) ?_
        refine jd_lsub [some (.ref (jd_k G 6)), some (.ref (β 0 0)), some (.ref (γ 0 0)), some (.ref (o)), some (.int (nI (5 * k))), none, none] ⟨rfl, rfl, rfl, rfl, rfl, trivial⟩ ?_
        exact jd_wk (kk b1 g1 _ _ hn1 _ _ hb1 hg1 hw2 hm2 hI2 ho2) (by omega) (by omega)
      · exact absurd (by rw [he]; exact lg_self) z8
  · exact absurd rfl z4

set_option maxRecDepth 20000 in
set_option maxHeartbeats 2000000 in
theorem law_15 {G : jd_G} {β γ : ll_B} {κ : ll_K} {μ : ll_U} {h : jd_H} (hw : WC G β κ h) (hm : WM G γ κ μ h) (hI : ll_I κ) {o : Nat} {n : Int64} {sv : Value} (ho : WO o n sv h) {k c s : Nat} (hk : 5 * k + 5 ≤ jd_k G 7) (hL : jd_k G 7 ≤ 320) {Q : Option Value → jd_H → Prop} {X : String → jd_H → Prop} (kk : law_k G β γ o k c s Q X) : jd_W G mL_law 20 (c + 2000) (s + 100000) 1289 [some (.ref (jd_k G 6)), some (.ref (β 0 0)), some (.ref (γ 0 0)), some (.ref (o)), some (.int (nI (5 * k))), none, none] [] h Q X := by
  refine jd_aload_n dL_law_1289 rfl ?_
  refine jd_aload_n dL_law_1290 rfl ?_
  refine jd_iload dL_law_1291 rfl ?_
  refine jd_iconst (v := 1) dL_law_1293 (by decide) ?_
  refine jd_iaddN (a := 5 * k) (b := 1) dL_law_1294 ?_
  refine jd_sld (n := (5 * k + 1)) (by omega) hL dL_law_1295 ?_
  refine jd_aload_n dL_law_1296 rfl ?_
  refine jd_iload dL_law_1297 rfl ?_
  refine jd_iconst (v := 2) dL_law_1299 (by decide) ?_
  refine jd_iaddN (a := 5 * k) (b := 2) dL_law_1300 ?_
  refine jd_sld (n := (5 * k + 2)) (by omega) hL dL_law_1301 ?_
  refine jd_aload_n dL_law_1302 rfl ?_
  refine jd_callSH (As := [.ref (β 0 0), .int ((jd_scr G ((5 * k + 1)))), .int ((jd_scr G ((5 * k + 2)))), .ref (o)]) (rest := []) (ct_X0_ofLand hw hI ho (jd_scr G (5 * k + 1)) (jd_scr G (5 * k + 2))) rfl q1128 q1129 q79 q1130 nX0_ofLand dL_law_1303 rfl rfl (Nat.le_of_ble_eq_true rfl) ⟨(Nat.le_of_ble_eq_true rfl), (Nat.le_of_ble_eq_true rfl), by omega, by omega⟩ (fun rv0 hn0 hq0 => ?_) jd_nox
  obtain ⟨rfl, ⟨b1, hb1, hw1⟩, ⟨n1, ho1, hna1⟩, hf1⟩ := hq0
  have hm1 := hm.out hf1
  have hle := le_ofLand (jd_scr G (5 * k + 1)) (jd_scr G (5 * k + 2))
  refine jd_istore (ls' := [_, _, _, _, _, _, _]) dL_law_1306 (Nat.le_of_ble_eq_true rfl) rfl rfl ?_
  refine jd_aload_n dL_law_1308 rfl ?_
  refine jd_aload_n dL_law_1309 rfl ?_
  refine jd_iload dL_law_1310 rfl ?_
  refine jd_iconst (v := 1) dL_law_1312 (by decide) ?_
  refine jd_iaddN (a := 5 * k) (b := 1) dL_law_1313 ?_
  refine jd_sld (n := (5 * k + 1)) (by omega) hL dL_law_1314 ?_
  refine jd_aload_n dL_law_1315 rfl ?_
  refine jd_iload dL_law_1316 rfl ?_
  refine jd_iconst (v := 2) dL_law_1318 (by decide) ?_
  refine jd_iaddN (a := 5 * k) (b := 2) dL_law_1319 ?_
  refine jd_sld (n := (5 * k + 2)) (by omega) hL dL_law_1320 ?_
  refine jd_callV (As := [.int ((jd_scr G ((5 * k + 1)))), .int ((jd_scr G ((5 * k + 2))))]) (rest := []) (ct_X4_ofLand hm1 hI (jd_scr G (5 * k + 1)) (jd_scr G (5 * k + 2))) (jd_rv (w_mthis hm1) 9 rfl rfl) rfl q1860 q1861 q1862 q90 q1863 nX4_ofLand dL_law_1321 rfl rfl rfl (Nat.le_of_ble_eq_true rfl) ⟨(Nat.le_of_ble_eq_true rfl), (Nat.le_of_ble_eq_true rfl), by omega, by omega⟩ (fun rv1 hn1 hq1 => ?_) jd_nox
  obtain ⟨⟨w1, rfl, hv1, hx1⟩, ⟨g1, m1, hg1, hm2, ht1⟩, hf2⟩ := hq1
  obtain ⟨x1, rfl⟩ : ∃ x, w1 = Value.int x := by
    by_cases e : c_ofLand (jd_scr G (5 * k + 1)) (jd_scr G (5 * k + 2)) = 0
    · exact ⟨_, hv1 e⟩
    · exact hx1 e
  have hw2 := hw1.of (fun j hj => hf2 j (Or.inl hj))
  have ho2 := (hf2 (40, 0) (Or.inr (by decide))).trans ho1.at
  have hI2 : ll_I (if c_ofLand (jd_scr G (5 * k + 1)) (jd_scr G (5 * k + 2)) = 0 then κ else κ) := by
    split <;> exact hI
  refine jd_istore (ls' := [_, _, _, _, _, _, _]) dL_law_1324 (Nat.le_of_ble_eq_true rfl) rfl rfl ?_
  refine jd_aload_n dL_law_1326 rfl ?_
  refine jd_pV (As := []) (rest := []) (show jd_Ct G mX4_thrown 0 0 0 [.ref (γ 0 0)] _ _ _ from by rw [← hg1]; exact ct_X4_thrown hm2) (jd_rv (show _ = some (γ 0 0, _) from hg1 ▸ w_mthis hm2) 9 rfl rfl) rfl q1506 q1507 q1508 q90 q1509 nX4_thrown dL_law_1327 rfl rfl rfl (Nat.le_of_ble_eq_true rfl) ⟨(Nat.le_of_ble_eq_true rfl), (Nat.le_of_ble_eq_true rfl)⟩ ?_
  refine jd_top (w := .int (nI (c_ofLand (jd_scr G (5 * k + 1)) (jd_scr G (5 * k + 2))))) (congrArg Value.int ht1) ?_
  refine jd_iload dL_law_1330 rfl ?_
  refine jd_ncmp_eq (a := (c_ofLand (jd_scr G (5 * k + 1)) (jd_scr G (5 * k + 2)))) (b := (c_ofLand (jd_scr G (5 * k + 1)) (jd_scr G (5 * k + 2)))) (tgt := 1337) dL_law_1332 (by decide) (by omega) (by omega) (fun z3 => ?_) (fun z4 => ?_)
  · refine jd_iload dL_law_1337 rfl ?_
    refine jd_nif_ne (a := (c_ofLand (jd_scr G (5 * k + 1)) (jd_scr G (5 * k + 2)))) (tgt := 1355) dL_law_1339 (by decide) (by omega) (fun z5 => ?_) (fun z6 => ?_)
    · refine jd_goto (tgt := 1978) dL_law_1355 (by decide) ?_
      refine jd_lsub [some (.ref (jd_k G 6)), some (.ref (β 0 0)), some (.ref (γ 0 0)), some (.ref (o)), some (.int (nI (5 * k))), none, none] ⟨rfl, rfl, rfl, rfl, rfl, trivial⟩ ?_
      exact jd_wk (kk b1 g1 _ _ hn1 _ _ hb1 hg1 hw2 hm2 hI2 ho2) (by omega) (by omega)
    · have hc0 : c_ofLand (jd_scr G (5 * k + 1)) (jd_scr G (5 * k + 2)) = 0 := z6
      have hx2 : x1 = _ := Value.int.inj (hv1 hc0)
      have he : n1 = x1.toInt64 := by rw [hna1 hc0, hx2]
      refine jd_aload_n dL_law_1342 rfl ?_
      refine jd_getN in_X6 ho2 0 q598 dL_law_1343 rfl (Nat.le_of_ble_eq_true rfl) rfl ?_
      refine jd_iload dL_law_1346 rfl ?_
      refine jd_i2l dL_law_1348 ?_
      refine jd_lcmp dL_law_1349 ?_
      refine jd_if_eq (tgt := 1355) dL_law_1350 (by decide) (fun z7 => ?_) (fun z8 => ?_)
      · refine jd_goto (tgt := 1978) dL_law_1355 (by decide) ?_
        refine jd_lsub [some (.ref (jd_k G 6)), some (.ref (β 0 0)), some (.ref (γ 0 0)), some (.ref (o)), some (.int (nI (5 * k))), none, none] ⟨rfl, rfl, rfl, rfl, rfl, trivial⟩ ?_
        exact jd_wk (kk b1 g1 _ _ hn1 _ _ hb1 hg1 hw2 hm2 hI2 ho2) (by omega) (by omega)
      · exact absurd (by rw [he]; exact lg_self) z8
  · exact absurd rfl z4

set_option maxRecDepth 20000 in
set_option maxHeartbeats 2000000 in
theorem law_16 {G : jd_G} {β γ : ll_B} {κ : ll_K} {μ : ll_U} {h : jd_H} (hw : WC G β κ h) (hm : WM G γ κ μ h) (hI : ll_I κ) {o : Nat} {n : Int64} {sv : Value} (ho : WO o n sv h) {k c s : Nat} (hk : 5 * k + 5 ≤ jd_k G 7) (hL : jd_k G 7 ≤ 320) {Q : Option Value → jd_H → Prop} {X : String → jd_H → Prop} (kk : law_k G β γ o k c s Q X) : jd_W G mL_law 20 (c + 2000) (s + 100000) 1358 [some (.ref (jd_k G 6)), some (.ref (β 0 0)), some (.ref (γ 0 0)), some (.ref (o)), some (.int (nI (5 * k))), none, none] [] h Q X := by
  refine jd_aload_n dL_law_1358 rfl ?_
  refine jd_aload_n dL_law_1359 rfl ?_
  refine jd_iload dL_law_1360 rfl ?_
  refine jd_iconst (v := 1) dL_law_1362 (by decide) ?_
  refine jd_iaddN (a := 5 * k) (b := 1) dL_law_1363 ?_
  refine jd_sld (n := (5 * k + 1)) (by omega) hL dL_law_1364 ?_
  refine jd_aload_n dL_law_1365 rfl ?_
  refine jd_iload dL_law_1366 rfl ?_
  refine jd_iconst (v := 2) dL_law_1368 (by decide) ?_
  refine jd_iaddN (a := 5 * k) (b := 2) dL_law_1369 ?_
  refine jd_sld (n := (5 * k + 2)) (by omega) hL dL_law_1370 ?_
  refine jd_aload_n dL_law_1371 rfl ?_
  refine jd_callSH (As := [.ref (β 0 0), .int ((jd_scr G ((5 * k + 1)))), .int ((jd_scr G ((5 * k + 2)))), .ref (o)]) (rest := []) (ct_X0_ofGate hw hI ho (jd_scr G (5 * k + 1)) (jd_scr G (5 * k + 2))) rfl q1135 q1136 q79 q1137 nX0_ofGate dL_law_1372 rfl rfl (Nat.le_of_ble_eq_true rfl) ⟨(Nat.le_of_ble_eq_true rfl), (Nat.le_of_ble_eq_true rfl), by omega, by omega⟩ (fun rv0 hn0 hq0 => ?_) jd_nox
  obtain ⟨rfl, ⟨b1, hb1, hw1⟩, ⟨n1, ho1, hna1⟩, hf1⟩ := hq0
  have hm1 := hm.out hf1
  have hle := le_ofGate κ (jd_scr G (5 * k + 1)) (jd_scr G (5 * k + 2))
  refine jd_istore (ls' := [_, _, _, _, _, _, _]) dL_law_1375 (Nat.le_of_ble_eq_true rfl) rfl rfl ?_
  refine jd_aload_n dL_law_1377 rfl ?_
  refine jd_aload_n dL_law_1378 rfl ?_
  refine jd_iload dL_law_1379 rfl ?_
  refine jd_iconst (v := 1) dL_law_1381 (by decide) ?_
  refine jd_iaddN (a := 5 * k) (b := 1) dL_law_1382 ?_
  refine jd_sld (n := (5 * k + 1)) (by omega) hL dL_law_1383 ?_
  refine jd_aload_n dL_law_1384 rfl ?_
  refine jd_iload dL_law_1385 rfl ?_
  refine jd_iconst (v := 2) dL_law_1387 (by decide) ?_
  refine jd_iaddN (a := 5 * k) (b := 2) dL_law_1388 ?_
  refine jd_sld (n := (5 * k + 2)) (by omega) hL dL_law_1389 ?_
  refine jd_callV (As := [.int ((jd_scr G ((5 * k + 1)))), .int ((jd_scr G ((5 * k + 2))))]) (rest := []) (ct_X4_ofGate hm1 hI (jd_scr G (5 * k + 1)) (jd_scr G (5 * k + 2))) (jd_rv (w_mthis hm1) 9 rfl rfl) rfl q1876 q1877 q1878 q90 q1879 nX4_ofGate dL_law_1390 rfl rfl rfl (Nat.le_of_ble_eq_true rfl) ⟨(Nat.le_of_ble_eq_true rfl), (Nat.le_of_ble_eq_true rfl), by omega, by omega⟩ (fun rv1 hn1 hq1 => ?_) jd_nox
  obtain ⟨⟨w1, rfl, hv1, hx1⟩, ⟨g1, m1, hg1, hm2, ht1⟩, hf2⟩ := hq1
  obtain ⟨x1, rfl⟩ : ∃ x, w1 = Value.int x := by
    by_cases e : c_ofGate κ (jd_scr G (5 * k + 1)) (jd_scr G (5 * k + 2)) = 0
    · exact ⟨_, hv1 e⟩
    · exact hx1 e
  have hw2 := hw1.of (fun j hj => hf2 j (Or.inl hj))
  have ho2 := (hf2 (40, 0) (Or.inr (by decide))).trans ho1.at
  have hI2 : ll_I (if c_ofGate κ (jd_scr G (5 * k + 1)) (jd_scr G (5 * k + 2)) = 0 then κ else κ) := by
    split <;> exact hI
  refine jd_istore (ls' := [_, _, _, _, _, _, _]) dL_law_1393 (Nat.le_of_ble_eq_true rfl) rfl rfl ?_
  refine jd_aload_n dL_law_1395 rfl ?_
  refine jd_pV (As := []) (rest := []) (show jd_Ct G mX4_thrown 0 0 0 [.ref (γ 0 0)] _ _ _ from by rw [← hg1]; exact ct_X4_thrown hm2) (jd_rv (show _ = some (γ 0 0, _) from hg1 ▸ w_mthis hm2) 9 rfl rfl) rfl q1506 q1507 q1508 q90 q1509 nX4_thrown dL_law_1396 rfl rfl rfl (Nat.le_of_ble_eq_true rfl) ⟨(Nat.le_of_ble_eq_true rfl), (Nat.le_of_ble_eq_true rfl)⟩ ?_
  refine jd_top (w := .int (nI (c_ofGate κ (jd_scr G (5 * k + 1)) (jd_scr G (5 * k + 2))))) (congrArg Value.int ht1) ?_
  refine jd_iload dL_law_1399 rfl ?_
  refine jd_ncmp_eq (a := (c_ofGate κ (jd_scr G (5 * k + 1)) (jd_scr G (5 * k + 2)))) (b := (c_ofGate κ (jd_scr G (5 * k + 1)) (jd_scr G (5 * k + 2)))) (tgt := 1406) dL_law_1401 (by decide) (by omega) (by omega) (fun z3 => ?_) (fun z4 => ?_)
  · refine jd_iload dL_law_1406 rfl ?_
    refine jd_nif_ne (a := (c_ofGate κ (jd_scr G (5 * k + 1)) (jd_scr G (5 * k + 2)))) (tgt := 1424) dL_law_1408 (by decide) (by omega) (fun z5 => ?_) (fun z6 => ?_)
    · refine jd_goto (tgt := 1978) dL_law_1424 (by decide) ?_
      refine jd_lsub [some (.ref (jd_k G 6)), some (.ref (β 0 0)), some (.ref (γ 0 0)), some (.ref (o)), some (.int (nI (5 * k))), none, none] ⟨rfl, rfl, rfl, rfl, rfl, trivial⟩ ?_
      exact jd_wk (kk b1 g1 _ _ hn1 _ _ hb1 hg1 hw2 hm2 hI2 ho2) (by omega) (by omega)
    · have hc0 : c_ofGate κ (jd_scr G (5 * k + 1)) (jd_scr G (5 * k + 2)) = 0 := z6
      have hx2 : x1 = _ := Value.int.inj (hv1 hc0)
      have he : n1 = x1.toInt64 := by rw [hna1 hc0, hx2]
      refine jd_aload_n dL_law_1411 rfl ?_
      refine jd_getN in_X6 ho2 0 q598 dL_law_1412 rfl (Nat.le_of_ble_eq_true rfl) rfl ?_
      refine jd_iload dL_law_1415 rfl ?_
      refine jd_i2l dL_law_1417 ?_
      refine jd_lcmp dL_law_1418 ?_
      refine jd_if_eq (tgt := 1424) dL_law_1419 (by decide) (fun z7 => ?_) (fun z8 => ?_)
      · refine jd_goto (tgt := 1978) dL_law_1424 (by decide) ?_
        refine jd_lsub [some (.ref (jd_k G 6)), some (.ref (β 0 0)), some (.ref (γ 0 0)), some (.ref (o)), some (.int (nI (5 * k))), none, none] ⟨rfl, rfl, rfl, rfl, rfl, trivial⟩ ?_
        exact jd_wk (kk b1 g1 _ _ hn1 _ _ hb1 hg1 hw2 hm2 hI2 ho2) (by omega) (by omega)
      · exact absurd (by rw [he]; exact lg_self) z8
  · exact absurd rfl z4

set_option maxRecDepth 20000 in
set_option maxHeartbeats 2000000 in
theorem law_17 {G : jd_G} {β γ : ll_B} {κ : ll_K} {μ : ll_U} {h : jd_H} (hw : WC G β κ h) (hm : WM G γ κ μ h) (hI : ll_I κ) {o : Nat} {n : Int64} {sv : Value} (ho : WO o n sv h) {k c s : Nat} (hk : 5 * k + 5 ≤ jd_k G 7) (hL : jd_k G 7 ≤ 320) {Q : Option Value → jd_H → Prop} {X : String → jd_H → Prop} (kk : law_k G β γ o k c s Q X) : jd_W G mL_law 20 (c + 2000) (s + 100000) 1427 [some (.ref (jd_k G 6)), some (.ref (β 0 0)), some (.ref (γ 0 0)), some (.ref (o)), some (.int (nI (5 * k))), none, none] [] h Q X := by
  refine jd_aload_n dL_law_1427 rfl ?_
  refine jd_aload_n dL_law_1428 rfl ?_
  refine jd_iload dL_law_1429 rfl ?_
  refine jd_iconst (v := 1) dL_law_1431 (by decide) ?_
  refine jd_iaddN (a := 5 * k) (b := 1) dL_law_1432 ?_
  refine jd_sld (n := (5 * k + 1)) (by omega) hL dL_law_1433 ?_
  refine jd_aload_n dL_law_1434 rfl ?_
  refine jd_iload dL_law_1435 rfl ?_
  refine jd_iconst (v := 2) dL_law_1437 (by decide) ?_
  refine jd_iaddN (a := 5 * k) (b := 2) dL_law_1438 ?_
  refine jd_sld (n := (5 * k + 2)) (by omega) hL dL_law_1439 ?_
  refine jd_aload_n dL_law_1440 rfl ?_
  refine jd_callSH (As := [.ref (β 0 0), .int ((jd_scr G ((5 * k + 1)))), .int ((jd_scr G ((5 * k + 2)))), .ref (o)]) (rest := []) (ct_X0_ofSleeper hw hI ho (jd_scr G (5 * k + 1)) (jd_scr G (5 * k + 2))) rfl q1142 q1143 q79 q1144 nX0_ofSleeper dL_law_1441 rfl rfl (Nat.le_of_ble_eq_true rfl) ⟨(Nat.le_of_ble_eq_true rfl), (Nat.le_of_ble_eq_true rfl), by omega, by omega⟩ (fun rv0 hn0 hq0 => ?_) jd_nox
  obtain ⟨rfl, ⟨b1, hb1, hw1⟩, ⟨n1, ho1, hna1⟩, hf1⟩ := hq0
  have hm1 := hm.out hf1
  have hle := le_ofSleeper κ (jd_scr G (5 * k + 1)) (jd_scr G (5 * k + 2))
  refine jd_istore (ls' := [_, _, _, _, _, _, _]) dL_law_1444 (Nat.le_of_ble_eq_true rfl) rfl rfl ?_
  refine jd_aload_n dL_law_1446 rfl ?_
  refine jd_aload_n dL_law_1447 rfl ?_
  refine jd_iload dL_law_1448 rfl ?_
  refine jd_iconst (v := 1) dL_law_1450 (by decide) ?_
  refine jd_iaddN (a := 5 * k) (b := 1) dL_law_1451 ?_
  refine jd_sld (n := (5 * k + 1)) (by omega) hL dL_law_1452 ?_
  refine jd_aload_n dL_law_1453 rfl ?_
  refine jd_iload dL_law_1454 rfl ?_
  refine jd_iconst (v := 2) dL_law_1456 (by decide) ?_
  refine jd_iaddN (a := 5 * k) (b := 2) dL_law_1457 ?_
  refine jd_sld (n := (5 * k + 2)) (by omega) hL dL_law_1458 ?_
  refine jd_callV (As := [.int ((jd_scr G ((5 * k + 1)))), .int ((jd_scr G ((5 * k + 2))))]) (rest := []) (ct_X4_ofSleeper hm1 hI (jd_scr G (5 * k + 1)) (jd_scr G (5 * k + 2))) (jd_rv (w_mthis hm1) 9 rfl rfl) rfl q1888 q1889 q1890 q90 q1891 nX4_ofSleeper dL_law_1459 rfl rfl rfl (Nat.le_of_ble_eq_true rfl) ⟨(Nat.le_of_ble_eq_true rfl), (Nat.le_of_ble_eq_true rfl), by omega, by omega⟩ (fun rv1 hn1 hq1 => ?_) jd_nox
  obtain ⟨⟨w1, rfl, hv1, hx1⟩, ⟨g1, m1, hg1, hm2, ht1⟩, hf2⟩ := hq1
  obtain ⟨x1, rfl⟩ : ∃ x, w1 = Value.int x := by
    by_cases e : c_ofSleeper κ (jd_scr G (5 * k + 1)) (jd_scr G (5 * k + 2)) = 0
    · exact ⟨_, hv1 e⟩
    · exact hx1 e
  have hw2 := hw1.of (fun j hj => hf2 j (Or.inl hj))
  have ho2 := (hf2 (40, 0) (Or.inr (by decide))).trans ho1.at
  have hI2 : ll_I (if c_ofSleeper κ (jd_scr G (5 * k + 1)) (jd_scr G (5 * k + 2)) = 0 then κ else κ) := by
    split <;> exact hI
  refine jd_istore (ls' := [_, _, _, _, _, _, _]) dL_law_1462 (Nat.le_of_ble_eq_true rfl) rfl rfl ?_
  refine jd_aload_n dL_law_1464 rfl ?_
  refine jd_pV (As := []) (rest := []) (show jd_Ct G mX4_thrown 0 0 0 [.ref (γ 0 0)] _ _ _ from by rw [← hg1]; exact ct_X4_thrown hm2) (jd_rv (show _ = some (γ 0 0, _) from hg1 ▸ w_mthis hm2) 9 rfl rfl) rfl q1506 q1507 q1508 q90 q1509 nX4_thrown dL_law_1465 rfl rfl rfl (Nat.le_of_ble_eq_true rfl) ⟨(Nat.le_of_ble_eq_true rfl), (Nat.le_of_ble_eq_true rfl)⟩ ?_
  refine jd_top (w := .int (nI (c_ofSleeper κ (jd_scr G (5 * k + 1)) (jd_scr G (5 * k + 2))))) (congrArg Value.int ht1) ?_
  refine jd_iload dL_law_1468 rfl ?_
  refine jd_ncmp_eq (a := (c_ofSleeper κ (jd_scr G (5 * k + 1)) (jd_scr G (5 * k + 2)))) (b := (c_ofSleeper κ (jd_scr G (5 * k + 1)) (jd_scr G (5 * k + 2)))) (tgt := 1475) dL_law_1470 (by decide) (by omega) (by omega) (fun z3 => ?_) (fun z4 => ?_)
  · refine jd_iload dL_law_1475 rfl ?_
    refine jd_nif_ne (a := (c_ofSleeper κ (jd_scr G (5 * k + 1)) (jd_scr G (5 * k + 2)))) (tgt := 1493) dL_law_1477 (by decide) (by omega) (fun z5 => ?_) (fun z6 => ?_)
    · refine jd_goto (tgt := 1978) dL_law_1493 (by decide) ?_
      refine jd_lsub [some (.ref (jd_k G 6)), some (.ref (β 0 0)), some (.ref (γ 0 0)), some (.ref (o)), some (.int (nI (5 * k))), none, none] ⟨rfl, rfl, rfl, rfl, rfl, trivial⟩ ?_
      exact jd_wk (kk b1 g1 _ _ hn1 _ _ hb1 hg1 hw2 hm2 hI2 ho2) (by omega) (by omega)
    · have hc0 : c_ofSleeper κ (jd_scr G (5 * k + 1)) (jd_scr G (5 * k + 2)) = 0 := z6
      have hx2 : x1 = _ := Value.int.inj (hv1 hc0)
      have he : n1 = x1.toInt64 := by rw [hna1 hc0, hx2]
      refine jd_aload_n dL_law_1480 rfl ?_
      refine jd_getN in_X6 ho2 0 q598 dL_law_1481 rfl (Nat.le_of_ble_eq_true rfl) rfl ?_
      refine jd_iload dL_law_1484 rfl ?_
      refine jd_i2l dL_law_1486 ?_
      refine jd_lcmp dL_law_1487 ?_
      refine jd_if_eq (tgt := 1493) dL_law_1488 (by decide) (fun z7 => ?_) (fun z8 => ?_)
      · refine jd_goto (tgt := 1978) dL_law_1493 (by decide) ?_
        refine jd_lsub [some (.ref (jd_k G 6)), some (.ref (β 0 0)), some (.ref (γ 0 0)), some (.ref (o)), some (.int (nI (5 * k))), none, none] ⟨rfl, rfl, rfl, rfl, rfl, trivial⟩ ?_
        exact jd_wk (kk b1 g1 _ _ hn1 _ _ hb1 hg1 hw2 hm2 hI2 ho2) (by omega) (by omega)
      · exact absurd (by rw [he]; exact lg_self) z8
  · exact absurd rfl z4

set_option maxRecDepth 20000 in
set_option maxHeartbeats 2000000 in
theorem law_18 {G : jd_G} {β γ : ll_B} {κ : ll_K} {μ : ll_U} {h : jd_H} (hw : WC G β κ h) (hm : WM G γ κ μ h) (hI : ll_I κ) {o : Nat} {n : Int64} {sv : Value} (ho : WO o n sv h) {k c s : Nat} (hk : 5 * k + 5 ≤ jd_k G 7) (hL : jd_k G 7 ≤ 320) {Q : Option Value → jd_H → Prop} {X : String → jd_H → Prop} (kk : law_k G β γ o k c s Q X) : jd_W G mL_law 20 (c + 2000) (s + 100000) 1496 [some (.ref (jd_k G 6)), some (.ref (β 0 0)), some (.ref (γ 0 0)), some (.ref (o)), some (.int (nI (5 * k))), none, none] [] h Q X := by
  refine jd_aload_n dL_law_1496 rfl ?_
  refine jd_aload_n dL_law_1497 rfl ?_
  refine jd_iload dL_law_1498 rfl ?_
  refine jd_iconst (v := 1) dL_law_1500 (by decide) ?_
  refine jd_iaddN (a := 5 * k) (b := 1) dL_law_1501 ?_
  refine jd_sld (n := (5 * k + 1)) (by omega) hL dL_law_1502 ?_
  refine jd_aload_n dL_law_1503 rfl ?_
  refine jd_iload dL_law_1504 rfl ?_
  refine jd_iconst (v := 2) dL_law_1506 (by decide) ?_
  refine jd_iaddN (a := 5 * k) (b := 2) dL_law_1507 ?_
  refine jd_sld (n := (5 * k + 2)) (by omega) hL dL_law_1508 ?_
  refine jd_aload_n dL_law_1509 rfl ?_
  refine jd_callSH (As := [.ref (β 0 0), .int ((jd_scr G ((5 * k + 1)))), .int ((jd_scr G ((5 * k + 2)))), .ref (o)]) (rest := []) (ct_X0_ofPart hw hI ho (jd_scr G (5 * k + 1)) (jd_scr G (5 * k + 2))) rfl q1149 q1150 q79 q1151 nX0_ofPart dL_law_1510 rfl rfl (Nat.le_of_ble_eq_true rfl) ⟨(Nat.le_of_ble_eq_true rfl), (Nat.le_of_ble_eq_true rfl), by omega, by omega⟩ (fun rv0 hn0 hq0 => ?_) jd_nox
  obtain ⟨rfl, ⟨b1, hb1, hw1⟩, ⟨n1, ho1, hna1⟩, hf1⟩ := hq0
  have hm1 := hm.out hf1
  have hle := le_ofPart κ (jd_scr G (5 * k + 1)) (jd_scr G (5 * k + 2))
  refine jd_istore (ls' := [_, _, _, _, _, _, _]) dL_law_1513 (Nat.le_of_ble_eq_true rfl) rfl rfl ?_
  refine jd_aload_n dL_law_1515 rfl ?_
  refine jd_aload_n dL_law_1516 rfl ?_
  refine jd_iload dL_law_1517 rfl ?_
  refine jd_iconst (v := 1) dL_law_1519 (by decide) ?_
  refine jd_iaddN (a := 5 * k) (b := 1) dL_law_1520 ?_
  refine jd_sld (n := (5 * k + 1)) (by omega) hL dL_law_1521 ?_
  refine jd_aload_n dL_law_1522 rfl ?_
  refine jd_iload dL_law_1523 rfl ?_
  refine jd_iconst (v := 2) dL_law_1525 (by decide) ?_
  refine jd_iaddN (a := 5 * k) (b := 2) dL_law_1526 ?_
  refine jd_sld (n := (5 * k + 2)) (by omega) hL dL_law_1527 ?_
  refine jd_callV (As := [.int ((jd_scr G ((5 * k + 1)))), .int ((jd_scr G ((5 * k + 2))))]) (rest := []) (ct_X4_ofPart hm1 hI (jd_scr G (5 * k + 1)) (jd_scr G (5 * k + 2))) (jd_rv (w_mthis hm1) 9 rfl rfl) rfl q1900 q1901 q1902 q90 q1903 nX4_ofPart dL_law_1528 rfl rfl rfl (Nat.le_of_ble_eq_true rfl) ⟨(Nat.le_of_ble_eq_true rfl), (Nat.le_of_ble_eq_true rfl), by omega, by omega⟩ (fun rv1 hn1 hq1 => ?_) jd_nox
  obtain ⟨⟨w1, rfl, hv1, hx1⟩, ⟨g1, m1, hg1, hm2, ht1⟩, hf2⟩ := hq1
  obtain ⟨x1, rfl⟩ : ∃ x, w1 = Value.int x := by
    by_cases e : c_ofPart κ (jd_scr G (5 * k + 1)) (jd_scr G (5 * k + 2)) = 0
    · exact ⟨_, hv1 e⟩
    · exact hx1 e
  have hw2 := hw1.of (fun j hj => hf2 j (Or.inl hj))
  have ho2 := (hf2 (40, 0) (Or.inr (by decide))).trans ho1.at
  have hI2 : ll_I (if c_ofPart κ (jd_scr G (5 * k + 1)) (jd_scr G (5 * k + 2)) = 0 then κ else κ) := by
    split <;> exact hI
  refine jd_istore (ls' := [_, _, _, _, _, _, _]) dL_law_1531 (Nat.le_of_ble_eq_true rfl) rfl rfl ?_
  refine jd_aload_n dL_law_1533 rfl ?_
  refine jd_pV (As := []) (rest := []) (show jd_Ct G mX4_thrown 0 0 0 [.ref (γ 0 0)] _ _ _ from by rw [← hg1]; exact ct_X4_thrown hm2) (jd_rv (show _ = some (γ 0 0, _) from hg1 ▸ w_mthis hm2) 9 rfl rfl) rfl q1506 q1507 q1508 q90 q1509 nX4_thrown dL_law_1534 rfl rfl rfl (Nat.le_of_ble_eq_true rfl) ⟨(Nat.le_of_ble_eq_true rfl), (Nat.le_of_ble_eq_true rfl)⟩ ?_
  refine jd_top (w := .int (nI (c_ofPart κ (jd_scr G (5 * k + 1)) (jd_scr G (5 * k + 2))))) (congrArg Value.int ht1) ?_
  refine jd_iload dL_law_1537 rfl ?_
  refine jd_ncmp_eq (a := (c_ofPart κ (jd_scr G (5 * k + 1)) (jd_scr G (5 * k + 2)))) (b := (c_ofPart κ (jd_scr G (5 * k + 1)) (jd_scr G (5 * k + 2)))) (tgt := 1544) dL_law_1539 (by decide) (by omega) (by omega) (fun z3 => ?_) (fun z4 => ?_)
  · refine jd_iload dL_law_1544 rfl ?_
    refine jd_nif_ne (a := (c_ofPart κ (jd_scr G (5 * k + 1)) (jd_scr G (5 * k + 2)))) (tgt := 1562) dL_law_1546 (by decide) (by omega) (fun z5 => ?_) (fun z6 => ?_)
    · refine jd_goto (tgt := 1978) dL_law_1562 (by decide) ?_
      refine jd_lsub [some (.ref (jd_k G 6)), some (.ref (β 0 0)), some (.ref (γ 0 0)), some (.ref (o)), some (.int (nI (5 * k))), none, none] ⟨rfl, rfl, rfl, rfl, rfl, trivial⟩ ?_
      exact jd_wk (kk b1 g1 _ _ hn1 _ _ hb1 hg1 hw2 hm2 hI2 ho2) (by omega) (by omega)
    · have hc0 : c_ofPart κ (jd_scr G (5 * k + 1)) (jd_scr G (5 * k + 2)) = 0 := z6
      have hx2 : x1 = _ := Value.int.inj (hv1 hc0)
      have he : n1 = x1.toInt64 := by rw [hna1 hc0, hx2]
      refine jd_aload_n dL_law_1549 rfl ?_
      refine jd_getN in_X6 ho2 0 q598 dL_law_1550 rfl (Nat.le_of_ble_eq_true rfl) rfl ?_
      refine jd_iload dL_law_1553 rfl ?_
      refine jd_i2l dL_law_1555 ?_
      refine jd_lcmp dL_law_1556 ?_
      refine jd_if_eq (tgt := 1562) dL_law_1557 (by decide) (fun z7 => ?_) (fun z8 => ?_)
      · refine jd_goto (tgt := 1978) dL_law_1562 (by decide) ?_
        refine jd_lsub [some (.ref (jd_k G 6)), some (.ref (β 0 0)), some (.ref (γ 0 0)), some (.ref (o)), some (.int (nI (5 * k))), none, none] ⟨rfl, rfl, rfl, rfl, rfl, trivial⟩ ?_
        exact jd_wk (kk b1 g1 _ _ hn1 _ _ hb1 hg1 hw2 hm2 hI2 ho2) (by omega) (by omega)
      · exact absurd (by rw [he]; exact lg_self) z8
  · exact absurd rfl z4

set_option maxRecDepth 20000 in
set_option maxHeartbeats 2000000 in
theorem law_19 {G : jd_G} {β γ : ll_B} {κ : ll_K} {μ : ll_U} {h : jd_H} (hw : WC G β κ h) (hm : WM G γ κ μ h) (hI : ll_I κ) {o : Nat} {n : Int64} {sv : Value} (ho : WO o n sv h) {k c s : Nat} (hk : 5 * k + 5 ≤ jd_k G 7) (hL : jd_k G 7 ≤ 320) {Q : Option Value → jd_H → Prop} {X : String → jd_H → Prop} (kk : law_k G β γ o k c s Q X) : jd_W G mL_law 20 (c + 2000) (s + 100000) 1565 [some (.ref (jd_k G 6)), some (.ref (β 0 0)), some (.ref (γ 0 0)), some (.ref (o)), some (.int (nI (5 * k))), none, none] [] h Q X := by
  refine jd_aload_n dL_law_1565 rfl ?_
  refine jd_aload_n dL_law_1566 rfl ?_
  refine jd_iload dL_law_1567 rfl ?_
  refine jd_iconst (v := 1) dL_law_1569 (by decide) ?_
  refine jd_iaddN (a := 5 * k) (b := 1) dL_law_1570 ?_
  refine jd_sld (n := (5 * k + 1)) (by omega) hL dL_law_1571 ?_
  refine jd_aload_n dL_law_1572 rfl ?_
  refine jd_iload dL_law_1573 rfl ?_
  refine jd_iconst (v := 2) dL_law_1575 (by decide) ?_
  refine jd_iaddN (a := 5 * k) (b := 2) dL_law_1576 ?_
  refine jd_sld (n := (5 * k + 2)) (by omega) hL dL_law_1577 ?_
  refine jd_aload_n dL_law_1578 rfl ?_
  refine jd_callSH (As := [.ref (β 0 0), .int ((jd_scr G ((5 * k + 1)))), .int ((jd_scr G ((5 * k + 2)))), .ref (o)]) (rest := []) (ct_X0_isGood hw hI ho (jd_scr G (5 * k + 1)) (jd_scr G (5 * k + 2))) rfl q1156 q1157 q79 q1158 nX0_isGood dL_law_1579 rfl rfl (Nat.le_of_ble_eq_true rfl) ⟨(Nat.le_of_ble_eq_true rfl), (Nat.le_of_ble_eq_true rfl), by omega, by omega⟩ (fun rv0 hn0 hq0 => ?_) jd_nox
  obtain ⟨rfl, ⟨b1, hb1, hw1⟩, ⟨n1, ho1, hna1⟩, hf1⟩ := hq0
  have hm1 := hm.out hf1
  have hle := le_isGood κ (jd_scr G (5 * k + 1)) (jd_scr G (5 * k + 2))
  refine jd_istore (ls' := [_, _, _, _, _, _, _]) dL_law_1582 (Nat.le_of_ble_eq_true rfl) rfl rfl ?_
  refine jd_aload_n dL_law_1584 rfl ?_
  refine jd_aload_n dL_law_1585 rfl ?_
  refine jd_iload dL_law_1586 rfl ?_
  refine jd_iconst (v := 1) dL_law_1588 (by decide) ?_
  refine jd_iaddN (a := 5 * k) (b := 1) dL_law_1589 ?_
  refine jd_sld (n := (5 * k + 1)) (by omega) hL dL_law_1590 ?_
  refine jd_aload_n dL_law_1591 rfl ?_
  refine jd_iload dL_law_1592 rfl ?_
  refine jd_iconst (v := 2) dL_law_1594 (by decide) ?_
  refine jd_iaddN (a := 5 * k) (b := 2) dL_law_1595 ?_
  refine jd_sld (n := (5 * k + 2)) (by omega) hL dL_law_1596 ?_
  refine jd_callV (As := [.int ((jd_scr G ((5 * k + 1)))), .int ((jd_scr G ((5 * k + 2))))]) (rest := []) (ct_X4_isGood hm1 hI (jd_scr G (5 * k + 1)) (jd_scr G (5 * k + 2))) (jd_rv (w_mthis hm1) 9 rfl rfl) rfl q1908 q1909 q1910 q90 q1911 nX4_isGood dL_law_1597 rfl rfl rfl (Nat.le_of_ble_eq_true rfl) ⟨(Nat.le_of_ble_eq_true rfl), (Nat.le_of_ble_eq_true rfl), by omega, by omega⟩ (fun rv1 hn1 hq1 => ?_) jd_nox
  obtain ⟨⟨w1, rfl, hv1, hx1⟩, ⟨g1, m1, hg1, hm2, ht1⟩, hf2⟩ := hq1
  obtain ⟨x1, rfl⟩ : ∃ x, w1 = Value.int x := by
    by_cases e : c_isGood κ (jd_scr G (5 * k + 1)) (jd_scr G (5 * k + 2)) = 0
    · exact ⟨_, hv1 e⟩
    · exact hx1 e
  have hw2 := hw1.of (fun j hj => hf2 j (Or.inl hj))
  have ho2 := (hf2 (40, 0) (Or.inr (by decide))).trans ho1.at
  have hI2 : ll_I (if c_isGood κ (jd_scr G (5 * k + 1)) (jd_scr G (5 * k + 2)) = 0 then κ else κ) := by
    split <;> exact hI
  refine jd_istore (ls' := [_, _, _, _, _, _, _]) dL_law_1600 (Nat.le_of_ble_eq_true rfl) rfl rfl ?_
  refine jd_aload_n dL_law_1602 rfl ?_
  refine jd_pV (As := []) (rest := []) (show jd_Ct G mX4_thrown 0 0 0 [.ref (γ 0 0)] _ _ _ from by rw [← hg1]; exact ct_X4_thrown hm2) (jd_rv (show _ = some (γ 0 0, _) from hg1 ▸ w_mthis hm2) 9 rfl rfl) rfl q1506 q1507 q1508 q90 q1509 nX4_thrown dL_law_1603 rfl rfl rfl (Nat.le_of_ble_eq_true rfl) ⟨(Nat.le_of_ble_eq_true rfl), (Nat.le_of_ble_eq_true rfl)⟩ ?_
  refine jd_top (w := .int (nI (c_isGood κ (jd_scr G (5 * k + 1)) (jd_scr G (5 * k + 2))))) (congrArg Value.int ht1) ?_
  refine jd_iload dL_law_1606 rfl ?_
  refine jd_ncmp_eq (a := (c_isGood κ (jd_scr G (5 * k + 1)) (jd_scr G (5 * k + 2)))) (b := (c_isGood κ (jd_scr G (5 * k + 1)) (jd_scr G (5 * k + 2)))) (tgt := 1613) dL_law_1608 (by decide) (by omega) (by omega) (fun z3 => ?_) (fun z4 => ?_)
  · refine jd_iload dL_law_1613 rfl ?_
    refine jd_nif_ne (a := (c_isGood κ (jd_scr G (5 * k + 1)) (jd_scr G (5 * k + 2)))) (tgt := 1638) dL_law_1615 (by decide) (by omega) (fun z5 => ?_) (fun z6 => ?_)
    · refine jd_goto (tgt := 1978) dL_law_1638 (by decide) ?_
      refine jd_lsub [some (.ref (jd_k G 6)), some (.ref (β 0 0)), some (.ref (γ 0 0)), some (.ref (o)), some (.int (nI (5 * k))), none, none] ⟨rfl, rfl, rfl, rfl, rfl, trivial⟩ ?_
      exact jd_wk (kk b1 g1 _ _ hn1 _ _ hb1 hg1 hw2 hm2 hI2 ho2) (by omega) (by omega)
    · have hc0 : c_isGood κ (jd_scr G (5 * k + 1)) (jd_scr G (5 * k + 2)) = 0 := z6
      have hx2 : x1 = _ := Value.int.inj (hv1 hc0)
      have he := hna1 hc0
      refine jd_aload_n dL_law_1618 rfl ?_
      refine jd_getN in_X6 ho2 0 q598 dL_law_1619 rfl (Nat.le_of_ble_eq_true rfl) rfl ?_
      refine jd_iload dL_law_1622 rfl ?_
      refine jd_mg1 1632 (.long ((if x1 = 0 then 0 else 1))) (fun hj7 => ?_) ?_
      · refine jd_if_eq (tgt := 1631) dL_law_1624 (by decide) (fun z8 => ?_) (fun z9 => ?_)
        · refine jd_lconst (v := 0) dL_law_1631 (by decide) ?_
          exact jd_top (congrArg Value.long (by rw [if_pos z8])) hj7
        · refine jd_lconst (v := 1) dL_law_1627 (by decide) ?_
          refine jd_goto (tgt := 1632) dL_law_1628 (by decide) ?_
          exact jd_top (congrArg Value.long (by rw [if_neg z9])) hj7
      · refine jd_lcmp dL_law_1632 ?_
        refine jd_if_eq (tgt := 1638) dL_law_1633 (by decide) (fun z10 => ?_) (fun z11 => ?_)
        · refine jd_goto (tgt := 1978) dL_law_1638 (by decide) ?_
          refine jd_lsub [some (.ref (jd_k G 6)), some (.ref (β 0 0)), some (.ref (γ 0 0)), some (.ref (o)), some (.int (nI (5 * k))), none, none] ⟨rfl, rfl, rfl, rfl, rfl, trivial⟩ ?_
          exact jd_wk (kk b1 g1 _ _ hn1 _ _ hb1 hg1 hw2 hm2 hI2 ho2) (by omega) (by omega)
        · exact absurd (by rw [he, hx2]; exact lg_b) z11
  · exact absurd rfl z4

set_option maxRecDepth 20000 in
set_option maxHeartbeats 2000000 in
theorem law_21 {G : jd_G} {β γ : ll_B} {κ : ll_K} {μ : ll_U} {h : jd_H} (hw : WC G β κ h) (hm : WM G γ κ μ h) (hI : ll_I κ) {o : Nat} {n : Int64} {sv : Value} (ho : WO o n sv h) {k c s : Nat} (hk : 5 * k + 5 ≤ jd_k G 7) (hL : jd_k G 7 ≤ 320) {Q : Option Value → jd_H → Prop} {X : String → jd_H → Prop} (kk : law_k G β γ o k c s Q X) : jd_W G mL_law 20 (c + 2000) (s + 100000) 1699 [some (.ref (jd_k G 6)), some (.ref (β 0 0)), some (.ref (γ 0 0)), some (.ref (o)), some (.int (nI (5 * k))), none, none] [] h Q X := by
  refine jd_aload_n dL_law_1699 rfl ?_
  refine jd_aload_n dL_law_1700 rfl ?_
  refine jd_iload dL_law_1701 rfl ?_
  refine jd_iconst (v := 1) dL_law_1703 (by decide) ?_
  refine jd_iaddN (a := 5 * k) (b := 1) dL_law_1704 ?_
  refine jd_sld (n := (5 * k + 1)) (by omega) hL dL_law_1705 ?_
  refine jd_aload_n dL_law_1706 rfl ?_
  refine jd_callSH (As := [.ref (β 0 0), .int ((jd_scr G ((5 * k + 1)))), .ref (o)]) (rest := []) (ct_X0_night hw hI ho (jd_scr G (5 * k + 1))) rfl q1401 q1402 q79 q1403 nX0_night dL_law_1707 rfl rfl (Nat.le_of_ble_eq_true rfl) ⟨(Nat.le_of_ble_eq_true rfl), (Nat.le_of_ble_eq_true rfl), by omega, by omega⟩ (fun rv0 hn0 hq0 => ?_) jd_nox
  obtain ⟨rfl, ⟨b1, hb1, hw1⟩, ⟨n1, ho1, hna1⟩, hf1⟩ := hq0
  have hm1 := hm.out hf1
  have hle := le_night (jd_scr G (5 * k + 1))
  refine jd_istore (ls' := [_, _, _, _, _, _, _]) dL_law_1710 (Nat.le_of_ble_eq_true rfl) rfl rfl ?_
  refine jd_aload_n dL_law_1712 rfl ?_
  refine jd_aload_n dL_law_1713 rfl ?_
  refine jd_iload dL_law_1714 rfl ?_
  refine jd_iconst (v := 1) dL_law_1716 (by decide) ?_
  refine jd_iaddN (a := 5 * k) (b := 1) dL_law_1717 ?_
  refine jd_sld (n := (5 * k + 1)) (by omega) hL dL_law_1718 ?_
  refine jd_callV (As := [.int ((jd_scr G ((5 * k + 1))))]) (rest := []) (ct_X4_night hm1 hI (jd_scr G (5 * k + 1))) (jd_rv (w_mthis hm1) 9 rfl rfl) rfl q1925 q1926 q1927 q90 q1928 nX4_night dL_law_1719 rfl rfl rfl (Nat.le_of_ble_eq_true rfl) ⟨(Nat.le_of_ble_eq_true rfl), (Nat.le_of_ble_eq_true rfl), by omega, by omega⟩ (fun rv1 hn1 hq1 => ?_) jd_nox
  obtain ⟨⟨w1, rfl, hv1, hx1⟩, ⟨g1, m1, hg1, hm2, ht1⟩, hf2⟩ := hq1
  obtain ⟨x1, rfl⟩ : ∃ x, w1 = Value.int x := by
    by_cases e : c_night (jd_scr G (5 * k + 1)) = 0
    · exact ⟨_, hv1 e⟩
    · exact hx1 e
  have hw2 := hw1.of (fun j hj => hf2 j (Or.inl hj))
  have ho2 := (hf2 (40, 0) (Or.inr (by decide))).trans ho1.at
  have hI2 : ll_I (if c_night (jd_scr G (5 * k + 1)) = 0 then κ else κ) := by
    split <;> exact hI
  refine jd_istore (ls' := [_, _, _, _, _, _, _]) dL_law_1722 (Nat.le_of_ble_eq_true rfl) rfl rfl ?_
  refine jd_aload_n dL_law_1724 rfl ?_
  refine jd_pV (As := []) (rest := []) (show jd_Ct G mX4_thrown 0 0 0 [.ref (γ 0 0)] _ _ _ from by rw [← hg1]; exact ct_X4_thrown hm2) (jd_rv (show _ = some (γ 0 0, _) from hg1 ▸ w_mthis hm2) 9 rfl rfl) rfl q1506 q1507 q1508 q90 q1509 nX4_thrown dL_law_1725 rfl rfl rfl (Nat.le_of_ble_eq_true rfl) ⟨(Nat.le_of_ble_eq_true rfl), (Nat.le_of_ble_eq_true rfl)⟩ ?_
  refine jd_top (w := .int (nI (c_night (jd_scr G (5 * k + 1))))) (congrArg Value.int ht1) ?_
  refine jd_iload dL_law_1728 rfl ?_
  refine jd_ncmp_eq (a := (c_night (jd_scr G (5 * k + 1)))) (b := (c_night (jd_scr G (5 * k + 1)))) (tgt := 1735) dL_law_1730 (by decide) (by omega) (by omega) (fun z3 => ?_) (fun z4 => ?_)
  · refine jd_iload dL_law_1735 rfl ?_
    refine jd_nif_ne (a := (c_night (jd_scr G (5 * k + 1)))) (tgt := 1753) dL_law_1737 (by decide) (by omega) (fun z5 => ?_) (fun z6 => ?_)
    · refine jd_goto (tgt := 1978) dL_law_1753 (by decide) ?_
      refine jd_lsub [some (.ref (jd_k G 6)), some (.ref (β 0 0)), some (.ref (γ 0 0)), some (.ref (o)), some (.int (nI (5 * k))), none, none] ⟨rfl, rfl, rfl, rfl, rfl, trivial⟩ ?_
      exact jd_wk (kk b1 g1 _ _ hn1 _ _ hb1 hg1 hw2 hm2 hI2 ho2) (by omega) (by omega)
    · have hc0 : c_night (jd_scr G (5 * k + 1)) = 0 := z6
      have hx2 : x1 = _ := Value.int.inj (hv1 hc0)
      have he : n1 = x1.toInt64 := by rw [hna1 hc0, hx2]
      refine jd_aload_n dL_law_1740 rfl ?_
      refine jd_getN in_X6 ho2 0 q598 dL_law_1741 rfl (Nat.le_of_ble_eq_true rfl) rfl ?_
      refine jd_iload dL_law_1744 rfl ?_
      refine jd_i2l dL_law_1746 ?_
      refine jd_lcmp dL_law_1747 ?_
      refine jd_if_eq (tgt := 1753) dL_law_1748 (by decide) (fun z7 => ?_) (fun z8 => ?_)
      · refine jd_goto (tgt := 1978) dL_law_1753 (by decide) ?_
        refine jd_lsub [some (.ref (jd_k G 6)), some (.ref (β 0 0)), some (.ref (γ 0 0)), some (.ref (o)), some (.int (nI (5 * k))), none, none] ⟨rfl, rfl, rfl, rfl, rfl, trivial⟩ ?_
        exact jd_wk (kk b1 g1 _ _ hn1 _ _ hb1 hg1 hw2 hm2 hI2 ho2) (by omega) (by omega)
      · exact absurd (by rw [he]; exact lg_self) z8
  · exact absurd rfl z4

set_option maxRecDepth 20000 in
set_option maxHeartbeats 2000000 in
theorem law_22 {G : jd_G} {β γ : ll_B} {κ : ll_K} {μ : ll_U} {h : jd_H} (hw : WC G β κ h) (hm : WM G γ κ μ h) (hI : ll_I κ) {o : Nat} {n : Int64} {sv : Value} (ho : WO o n sv h) {k c s : Nat} (hk : 5 * k + 5 ≤ jd_k G 7) (hL : jd_k G 7 ≤ 320) {Q : Option Value → jd_H → Prop} {X : String → jd_H → Prop} (kk : law_k G β γ o k c s Q X) : jd_W G mL_law 20 (c + 2000) (s + 100000) 1756 [some (.ref (jd_k G 6)), some (.ref (β 0 0)), some (.ref (γ 0 0)), some (.ref (o)), some (.int (nI (5 * k))), none, none] [] h Q X := by
  refine jd_aload_n dL_law_1756 rfl ?_
  refine jd_aload_n dL_law_1757 rfl ?_
  refine jd_iload dL_law_1758 rfl ?_
  refine jd_iconst (v := 1) dL_law_1760 (by decide) ?_
  refine jd_iaddN (a := 5 * k) (b := 1) dL_law_1761 ?_
  refine jd_sld (n := (5 * k + 1)) (by omega) hL dL_law_1762 ?_
  refine jd_aload_n dL_law_1763 rfl ?_
  refine jd_iload dL_law_1764 rfl ?_
  refine jd_iconst (v := 2) dL_law_1766 (by decide) ?_
  refine jd_iaddN (a := 5 * k) (b := 2) dL_law_1767 ?_
  refine jd_sld (n := (5 * k + 2)) (by omega) hL dL_law_1768 ?_
  refine jd_aload_n dL_law_1769 rfl ?_
  refine jd_callSH (As := [.ref (β 0 0), .int ((jd_scr G ((5 * k + 1)))), .int ((jd_scr G ((5 * k + 2)))), .ref (o)]) (rest := []) (ct_X0_way hw hI ho (jd_scr G (5 * k + 1)) (jd_scr G (5 * k + 2))) rfl q1408 q1409 q79 q1410 nX0_way dL_law_1770 rfl rfl (Nat.le_of_ble_eq_true rfl) ⟨(Nat.le_of_ble_eq_true rfl), (Nat.le_of_ble_eq_true rfl), by omega, by omega⟩ (fun rv0 hn0 hq0 => ?_) jd_nox
  obtain ⟨rfl, ⟨b1, hb1, hw1⟩, ⟨n1, ho1, hna1⟩, hf1⟩ := hq0
  have hm1 := hm.out hf1
  have hle := le_way (jd_scr G (5 * k + 1)) (jd_scr G (5 * k + 2))
  refine jd_istore (ls' := [_, _, _, _, _, _, _]) dL_law_1773 (Nat.le_of_ble_eq_true rfl) rfl rfl ?_
  refine jd_aload_n dL_law_1775 rfl ?_
  refine jd_aload_n dL_law_1776 rfl ?_
  refine jd_iload dL_law_1777 rfl ?_
  refine jd_iconst (v := 1) dL_law_1779 (by decide) ?_
  refine jd_iaddN (a := 5 * k) (b := 1) dL_law_1780 ?_
  refine jd_sld (n := (5 * k + 1)) (by omega) hL dL_law_1781 ?_
  refine jd_aload_n dL_law_1782 rfl ?_
  refine jd_iload dL_law_1783 rfl ?_
  refine jd_iconst (v := 2) dL_law_1785 (by decide) ?_
  refine jd_iaddN (a := 5 * k) (b := 2) dL_law_1786 ?_
  refine jd_sld (n := (5 * k + 2)) (by omega) hL dL_law_1787 ?_
  refine jd_callV (As := [.int ((jd_scr G ((5 * k + 1)))), .int ((jd_scr G ((5 * k + 2))))]) (rest := []) (ct_X4_way hm1 hI (jd_scr G (5 * k + 1)) (jd_scr G (5 * k + 2))) (jd_rv (w_mthis hm1) 9 rfl rfl) rfl q1933 q1934 q1935 q90 q1936 nX4_way dL_law_1788 rfl rfl rfl (Nat.le_of_ble_eq_true rfl) ⟨(Nat.le_of_ble_eq_true rfl), (Nat.le_of_ble_eq_true rfl), by omega, by omega⟩ (fun rv1 hn1 hq1 => ?_) jd_nox
  obtain ⟨⟨w1, rfl, hv1, hx1⟩, ⟨g1, m1, hg1, hm2, ht1⟩, hf2⟩ := hq1
  obtain ⟨x1, rfl⟩ : ∃ x, w1 = Value.int x := by
    by_cases e : c_way (jd_scr G (5 * k + 1)) (jd_scr G (5 * k + 2)) = 0
    · exact ⟨_, hv1 e⟩
    · exact hx1 e
  have hw2 := hw1.of (fun j hj => hf2 j (Or.inl hj))
  have ho2 := (hf2 (40, 0) (Or.inr (by decide))).trans ho1.at
  have hI2 : ll_I (if c_way (jd_scr G (5 * k + 1)) (jd_scr G (5 * k + 2)) = 0 then κ else κ) := by
    split <;> exact hI
  refine jd_istore (ls' := [_, _, _, _, _, _, _]) dL_law_1791 (Nat.le_of_ble_eq_true rfl) rfl rfl ?_
  refine jd_aload_n dL_law_1793 rfl ?_
  refine jd_pV (As := []) (rest := []) (show jd_Ct G mX4_thrown 0 0 0 [.ref (γ 0 0)] _ _ _ from by rw [← hg1]; exact ct_X4_thrown hm2) (jd_rv (show _ = some (γ 0 0, _) from hg1 ▸ w_mthis hm2) 9 rfl rfl) rfl q1506 q1507 q1508 q90 q1509 nX4_thrown dL_law_1794 rfl rfl rfl (Nat.le_of_ble_eq_true rfl) ⟨(Nat.le_of_ble_eq_true rfl), (Nat.le_of_ble_eq_true rfl)⟩ ?_
  refine jd_top (w := .int (nI (c_way (jd_scr G (5 * k + 1)) (jd_scr G (5 * k + 2))))) (congrArg Value.int ht1) ?_
  refine jd_iload dL_law_1797 rfl ?_
  refine jd_ncmp_eq (a := (c_way (jd_scr G (5 * k + 1)) (jd_scr G (5 * k + 2)))) (b := (c_way (jd_scr G (5 * k + 1)) (jd_scr G (5 * k + 2)))) (tgt := 1804) dL_law_1799 (by decide) (by omega) (by omega) (fun z3 => ?_) (fun z4 => ?_)
  · refine jd_iload dL_law_1804 rfl ?_
    refine jd_nif_ne (a := (c_way (jd_scr G (5 * k + 1)) (jd_scr G (5 * k + 2)))) (tgt := 1822) dL_law_1806 (by decide) (by omega) (fun z5 => ?_) (fun z6 => ?_)
    · refine jd_goto (tgt := 1978) dL_law_1822 (by decide) ?_
      refine jd_lsub [some (.ref (jd_k G 6)), some (.ref (β 0 0)), some (.ref (γ 0 0)), some (.ref (o)), some (.int (nI (5 * k))), none, none] ⟨rfl, rfl, rfl, rfl, rfl, trivial⟩ ?_
      exact jd_wk (kk b1 g1 _ _ hn1 _ _ hb1 hg1 hw2 hm2 hI2 ho2) (by omega) (by omega)
    · have hc0 : c_way (jd_scr G (5 * k + 1)) (jd_scr G (5 * k + 2)) = 0 := z6
      have hx2 : x1 = _ := Value.int.inj (hv1 hc0)
      have he : n1 = x1.toInt64 := by rw [hna1 hc0, hx2]
      refine jd_aload_n dL_law_1809 rfl ?_
      refine jd_getN in_X6 ho2 0 q598 dL_law_1810 rfl (Nat.le_of_ble_eq_true rfl) rfl ?_
      refine jd_iload dL_law_1813 rfl ?_
      refine jd_i2l dL_law_1815 ?_
      refine jd_lcmp dL_law_1816 ?_
      refine jd_if_eq (tgt := 1822) dL_law_1817 (by decide) (fun z7 => ?_) (fun z8 => ?_)
      · refine jd_goto (tgt := 1978) dL_law_1822 (by decide) ?_
        refine jd_lsub [some (.ref (jd_k G 6)), some (.ref (β 0 0)), some (.ref (γ 0 0)), some (.ref (o)), some (.int (nI (5 * k))), none, none] ⟨rfl, rfl, rfl, rfl, rfl, trivial⟩ ?_
        exact jd_wk (kk b1 g1 _ _ hn1 _ _ hb1 hg1 hw2 hm2 hI2 ho2) (by omega) (by omega)
      · exact absurd (by rw [he]; exact lg_self) z8
  · exact absurd rfl z4

set_option maxRecDepth 20000 in
set_option maxHeartbeats 2000000 in
theorem law_23 {G : jd_G} {β γ : ll_B} {κ : ll_K} {μ : ll_U} {h : jd_H} (hw : WC G β κ h) (hm : WM G γ κ μ h) (hI : ll_I κ) {o : Nat} {n : Int64} {sv : Value} (ho : WO o n sv h) {k c s : Nat} (hk : 5 * k + 5 ≤ jd_k G 7) (hL : jd_k G 7 ≤ 320) {Q : Option Value → jd_H → Prop} {X : String → jd_H → Prop} (kk : law_k G β γ o k c s Q X) : jd_W G mL_law 20 (c + 2000) (s + 100000) 1825 [some (.ref (jd_k G 6)), some (.ref (β 0 0)), some (.ref (γ 0 0)), some (.ref (o)), some (.int (nI (5 * k))), none, none] [] h Q X := by
  refine jd_aload_n dL_law_1825 rfl ?_
  refine jd_aload_n dL_law_1826 rfl ?_
  refine jd_iload dL_law_1827 rfl ?_
  refine jd_iconst (v := 1) dL_law_1829 (by decide) ?_
  refine jd_iaddN (a := 5 * k) (b := 1) dL_law_1830 ?_
  refine jd_sld (n := (5 * k + 1)) (by omega) hL dL_law_1831 ?_
  refine jd_aload_n dL_law_1832 rfl ?_
  refine jd_iload dL_law_1833 rfl ?_
  refine jd_iconst (v := 2) dL_law_1835 (by decide) ?_
  refine jd_iaddN (a := 5 * k) (b := 2) dL_law_1836 ?_
  refine jd_sld (n := (5 * k + 2)) (by omega) hL dL_law_1837 ?_
  refine jd_aload_n dL_law_1838 rfl ?_
  refine jd_callSH (As := [.ref (β 0 0), .int ((jd_scr G ((5 * k + 1)))), .int ((jd_scr G ((5 * k + 2)))), .ref (o)]) (rest := []) (ct_X0_plan hw hI ho (jd_scr G (5 * k + 1)) (jd_scr G (5 * k + 2))) rfl q1415 q1416 q79 q1417 nX0_plan dL_law_1839 rfl rfl (Nat.le_of_ble_eq_true rfl) ⟨(Nat.le_of_ble_eq_true rfl), (Nat.le_of_ble_eq_true rfl), by omega, by omega⟩ (fun rv0 hn0 hq0 => ?_) jd_nox
  obtain ⟨rfl, ⟨b1, hb1, hw1⟩, ⟨n1, ho1, hna1⟩, hf1⟩ := hq0
  have hm1 := hm.out hf1
  have hle := le_plan κ (jd_scr G (5 * k + 1)) (jd_scr G (5 * k + 2))
  refine jd_istore (ls' := [_, _, _, _, _, _, _]) dL_law_1842 (Nat.le_of_ble_eq_true rfl) rfl rfl ?_
  refine jd_aload_n dL_law_1844 rfl ?_
  refine jd_aload_n dL_law_1845 rfl ?_
  refine jd_iload dL_law_1846 rfl ?_
  refine jd_iconst (v := 1) dL_law_1848 (by decide) ?_
  refine jd_iaddN (a := 5 * k) (b := 1) dL_law_1849 ?_
  refine jd_sld (n := (5 * k + 1)) (by omega) hL dL_law_1850 ?_
  refine jd_aload_n dL_law_1851 rfl ?_
  refine jd_iload dL_law_1852 rfl ?_
  refine jd_iconst (v := 2) dL_law_1854 (by decide) ?_
  refine jd_iaddN (a := 5 * k) (b := 2) dL_law_1855 ?_
  refine jd_sld (n := (5 * k + 2)) (by omega) hL dL_law_1856 ?_
  refine jd_callV (As := [.int ((jd_scr G ((5 * k + 1)))), .int ((jd_scr G ((5 * k + 2))))]) (rest := []) (ct_X4_plan hm1 hI (jd_scr G (5 * k + 1)) (jd_scr G (5 * k + 2))) (jd_rv (w_mthis hm1) 9 rfl rfl) rfl q1941 q1942 q1943 q90 q1944 nX4_plan dL_law_1857 rfl rfl rfl (Nat.le_of_ble_eq_true rfl) ⟨(Nat.le_of_ble_eq_true rfl), (Nat.le_of_ble_eq_true rfl), by omega, by omega⟩ (fun rv1 hn1 hq1 => ?_) jd_nox
  obtain ⟨⟨w1, rfl, hv1, hx1⟩, ⟨g1, m1, hg1, hm2, ht1⟩, hf2⟩ := hq1
  obtain ⟨x1, rfl⟩ : ∃ x, w1 = Value.int x := by
    by_cases e : c_plan κ (jd_scr G (5 * k + 1)) (jd_scr G (5 * k + 2)) = 0
    · exact ⟨_, hv1 e⟩
    · exact hx1 e
  have hw2 := hw1.of (fun j hj => hf2 j (Or.inl hj))
  have ho2 := (hf2 (40, 0) (Or.inr (by decide))).trans ho1.at
  have hI2 : ll_I (if c_plan κ (jd_scr G (5 * k + 1)) (jd_scr G (5 * k + 2)) = 0 then κ else κ) := by
    split <;> exact hI
  refine jd_istore (ls' := [_, _, _, _, _, _, _]) dL_law_1860 (Nat.le_of_ble_eq_true rfl) rfl rfl ?_
  refine jd_aload_n dL_law_1862 rfl ?_
  refine jd_pV (As := []) (rest := []) (show jd_Ct G mX4_thrown 0 0 0 [.ref (γ 0 0)] _ _ _ from by rw [← hg1]; exact ct_X4_thrown hm2) (jd_rv (show _ = some (γ 0 0, _) from hg1 ▸ w_mthis hm2) 9 rfl rfl) rfl q1506 q1507 q1508 q90 q1509 nX4_thrown dL_law_1863 rfl rfl rfl (Nat.le_of_ble_eq_true rfl) ⟨(Nat.le_of_ble_eq_true rfl), (Nat.le_of_ble_eq_true rfl)⟩ ?_
  refine jd_top (w := .int (nI (c_plan κ (jd_scr G (5 * k + 1)) (jd_scr G (5 * k + 2))))) (congrArg Value.int ht1) ?_
  refine jd_iload dL_law_1866 rfl ?_
  refine jd_ncmp_eq (a := (c_plan κ (jd_scr G (5 * k + 1)) (jd_scr G (5 * k + 2)))) (b := (c_plan κ (jd_scr G (5 * k + 1)) (jd_scr G (5 * k + 2)))) (tgt := 1873) dL_law_1868 (by decide) (by omega) (by omega) (fun z3 => ?_) (fun z4 => ?_)
  · refine jd_iload dL_law_1873 rfl ?_
    refine jd_nif_ne (a := (c_plan κ (jd_scr G (5 * k + 1)) (jd_scr G (5 * k + 2)))) (tgt := 1891) dL_law_1875 (by decide) (by omega) (fun z5 => ?_) (fun z6 => ?_)
    · refine jd_goto (tgt := 1978) dL_law_1891 (by decide) ?_
      refine jd_lsub [some (.ref (jd_k G 6)), some (.ref (β 0 0)), some (.ref (γ 0 0)), some (.ref (o)), some (.int (nI (5 * k))), none, none] ⟨rfl, rfl, rfl, rfl, rfl, trivial⟩ ?_
      exact jd_wk (kk b1 g1 _ _ hn1 _ _ hb1 hg1 hw2 hm2 hI2 ho2) (by omega) (by omega)
    · have hc0 : c_plan κ (jd_scr G (5 * k + 1)) (jd_scr G (5 * k + 2)) = 0 := z6
      have hx2 : x1 = _ := Value.int.inj (hv1 hc0)
      have he : n1 = x1.toInt64 := by rw [hna1 hc0, hx2]
      refine jd_aload_n dL_law_1878 rfl ?_
      refine jd_getN in_X6 ho2 0 q598 dL_law_1879 rfl (Nat.le_of_ble_eq_true rfl) rfl ?_
      refine jd_iload dL_law_1882 rfl ?_
      refine jd_i2l dL_law_1884 ?_
      refine jd_lcmp dL_law_1885 ?_
      refine jd_if_eq (tgt := 1891) dL_law_1886 (by decide) (fun z7 => ?_) (fun z8 => ?_)
      · refine jd_goto (tgt := 1978) dL_law_1891 (by decide) ?_
        refine jd_lsub [some (.ref (jd_k G 6)), some (.ref (β 0 0)), some (.ref (γ 0 0)), some (.ref (o)), some (.int (nI (5 * k))), none, none] ⟨rfl, rfl, rfl, rfl, rfl, trivial⟩ ?_
        exact jd_wk (kk b1 g1 _ _ hn1 _ _ hb1 hg1 hw2 hm2 hI2 ho2) (by omega) (by omega)
      · exact absurd (by rw [he]; exact lg_self) z8
  · exact absurd rfl z4

set_option maxRecDepth 20000 in
set_option maxHeartbeats 2000000 in
theorem law_24 {G : jd_G} {β γ : ll_B} {κ : ll_K} {μ : ll_U} {h : jd_H} (hw : WC G β κ h) (hm : WM G γ κ μ h) (hI : ll_I κ) {o : Nat} {n : Int64} {sv : Value} (ho : WO o n sv h) {k c s : Nat} (hk : 5 * k + 5 ≤ jd_k G 7) (hL : jd_k G 7 ≤ 320) {Q : Option Value → jd_H → Prop} {X : String → jd_H → Prop} (kk : law_k G β γ o k c s Q X) : jd_W G mL_law 20 (c + 2000) (s + 100000) 1894 [some (.ref (jd_k G 6)), some (.ref (β 0 0)), some (.ref (γ 0 0)), some (.ref (o)), some (.int (nI (5 * k))), none, none] [] h Q X := by
  refine jd_aload_n dL_law_1894 rfl ?_
  refine jd_aload_n dL_law_1895 rfl ?_
  refine jd_iload dL_law_1896 rfl ?_
  refine jd_iconst (v := 1) dL_law_1898 (by decide) ?_
  refine jd_iaddN (a := 5 * k) (b := 1) dL_law_1899 ?_
  refine jd_sld (n := (5 * k + 1)) (by omega) hL dL_law_1900 ?_
  refine jd_aload_n dL_law_1901 rfl ?_
  refine jd_callSH (As := [.ref (β 0 0), .int ((jd_scr G ((5 * k + 1)))), .ref (o)]) (rest := []) (ct_X0_wouldPay hw hI ho (jd_scr G (5 * k + 1))) rfl q1422 q1423 q79 q1424 nX0_wouldPay dL_law_1902 rfl rfl (Nat.le_of_ble_eq_true rfl) ⟨(Nat.le_of_ble_eq_true rfl), (Nat.le_of_ble_eq_true rfl), by omega, by omega⟩ (fun rv0 hn0 hq0 => ?_) jd_nox
  obtain ⟨rfl, ⟨b1, hb1, hw1⟩, ⟨n1, ho1, hna1⟩, hf1⟩ := hq0
  have hm1 := hm.out hf1
  have hle := le_gate1 κ (jd_scr G (5 * k + 1))
  refine jd_istore (ls' := [_, _, _, _, _, _, _]) dL_law_1905 (Nat.le_of_ble_eq_true rfl) rfl rfl ?_
  refine jd_aload_n dL_law_1907 rfl ?_
  refine jd_aload_n dL_law_1908 rfl ?_
  refine jd_iload dL_law_1909 rfl ?_
  refine jd_iconst (v := 1) dL_law_1911 (by decide) ?_
  refine jd_iaddN (a := 5 * k) (b := 1) dL_law_1912 ?_
  refine jd_sld (n := (5 * k + 1)) (by omega) hL dL_law_1913 ?_
  refine jd_callV (As := [.int ((jd_scr G ((5 * k + 1))))]) (rest := []) (ct_X4_wouldPay hm1 hI (jd_scr G (5 * k + 1))) (jd_rv (w_mthis hm1) 9 rfl rfl) rfl q1954 q1955 q1956 q90 q1957 nX4_wouldPay dL_law_1914 rfl rfl rfl (Nat.le_of_ble_eq_true rfl) ⟨(Nat.le_of_ble_eq_true rfl), (Nat.le_of_ble_eq_true rfl), by omega, by omega⟩ (fun rv1 hn1 hq1 => ?_) jd_nox
  obtain ⟨⟨w1, rfl, hv1, hx1⟩, ⟨g1, m1, hg1, hm2, ht1⟩, hf2⟩ := hq1
  obtain ⟨x1, rfl⟩ : ∃ x, w1 = Value.int x := by
    by_cases e : c_gate1 κ (jd_scr G (5 * k + 1)) = 0
    · exact ⟨_, hv1 e⟩
    · exact hx1 e
  have hw2 := hw1.of (fun j hj => hf2 j (Or.inl hj))
  have ho2 := (hf2 (40, 0) (Or.inr (by decide))).trans ho1.at
  have hI2 : ll_I (if c_gate1 κ (jd_scr G (5 * k + 1)) = 0 then κ else κ) := by
    split <;> exact hI
  refine jd_istore (ls' := [_, _, _, _, _, _, _]) dL_law_1917 (Nat.le_of_ble_eq_true rfl) rfl rfl ?_
  refine jd_aload_n dL_law_1919 rfl ?_
  refine jd_pV (As := []) (rest := []) (show jd_Ct G mX4_thrown 0 0 0 [.ref (γ 0 0)] _ _ _ from by rw [← hg1]; exact ct_X4_thrown hm2) (jd_rv (show _ = some (γ 0 0, _) from hg1 ▸ w_mthis hm2) 9 rfl rfl) rfl q1506 q1507 q1508 q90 q1509 nX4_thrown dL_law_1920 rfl rfl rfl (Nat.le_of_ble_eq_true rfl) ⟨(Nat.le_of_ble_eq_true rfl), (Nat.le_of_ble_eq_true rfl)⟩ ?_
  refine jd_top (w := .int (nI (c_gate1 κ (jd_scr G (5 * k + 1))))) (congrArg Value.int ht1) ?_
  refine jd_iload dL_law_1923 rfl ?_
  refine jd_ncmp_eq (a := (c_gate1 κ (jd_scr G (5 * k + 1)))) (b := (c_gate1 κ (jd_scr G (5 * k + 1)))) (tgt := 1930) dL_law_1925 (by decide) (by omega) (by omega) (fun z3 => ?_) (fun z4 => ?_)
  · refine jd_iload dL_law_1930 rfl ?_
    refine jd_nif_ne (a := (c_gate1 κ (jd_scr G (5 * k + 1)))) (tgt := 1948) dL_law_1932 (by decide) (by omega) (fun z5 => ?_) (fun z6 => ?_)
    · refine jd_goto (tgt := 1978) dL_law_1948 (by decide) ?_
      refine jd_lsub [some (.ref (jd_k G 6)), some (.ref (β 0 0)), some (.ref (γ 0 0)), some (.ref (o)), some (.int (nI (5 * k))), none, none] ⟨rfl, rfl, rfl, rfl, rfl, trivial⟩ ?_
      exact jd_wk (kk b1 g1 _ _ hn1 _ _ hb1 hg1 hw2 hm2 hI2 ho2) (by omega) (by omega)
    · have hc0 : c_gate1 κ (jd_scr G (5 * k + 1)) = 0 := z6
      have hx2 : x1 = _ := Value.int.inj (hv1 hc0)
      have he : n1 = x1.toInt64 := by rw [hna1 hc0, hx2]
      refine jd_aload_n dL_law_1935 rfl ?_
      refine jd_getN in_X6 ho2 0 q598 dL_law_1936 rfl (Nat.le_of_ble_eq_true rfl) rfl ?_
      refine jd_iload dL_law_1939 rfl ?_
      refine jd_i2l dL_law_1941 ?_
      refine jd_lcmp dL_law_1942 ?_
      refine jd_if_eq (tgt := 1948) dL_law_1943 (by decide) (fun z7 => ?_) (fun z8 => ?_)
      · refine jd_goto (tgt := 1978) dL_law_1948 (by decide) ?_
        refine jd_lsub [some (.ref (jd_k G 6)), some (.ref (β 0 0)), some (.ref (γ 0 0)), some (.ref (o)), some (.int (nI (5 * k))), none, none] ⟨rfl, rfl, rfl, rfl, rfl, trivial⟩ ?_
        exact jd_wk (kk b1 g1 _ _ hn1 _ _ hb1 hg1 hw2 hm2 hI2 ho2) (by omega) (by omega)
      · exact absurd (by rw [he]; exact lg_self) z8
  · exact absurd rfl z4
