/-! ===== nt: handlers, the script, the law's frame ===== -/
theorem jd_callSH {G : jd_G} {M M' : jd_M} {d d' cb cb' sb sb' pc idx : Nat} {ls : List (Option Value)} {st rest As : List Value} {h : jd_H} {Q Q' : Option Value → jd_H → Prop} {X X' : String → jd_H → Prop} (hC : jd_Ct G M' d' cb' sb' As h Q' X') {x : Nat × Nat × Nat × Nat} {r : List (Nat × Nat × Nat × Nat)} (hh : M'.2.2.2.2.2 = x :: r) (q1 : Cond.methodLink M.1 idx M'.2.1 ∈ lw_all) (q2 : Cond.static M'.2.1 ∈ lw_all) (q3 : Cond.initialized M'.2.1.cls ∈ lw_all) (q4 : Cond.codeWith M'.2.1 M'.2.2.1 M'.2.2.2.1 M'.2.2.2.2.1 M'.2.2.2.2.2 ∈ lw_all) {n : Nat} (hn : jd_N M'.2.1 n) (dc : decode M.2.2.1 pc = .ok (.invokestatic idx, 3)) (hlen : As.length = n) (hst : st = As.reverse ++ rest) (hw : (rest.map fun v => v.category).sum ≤ 8) (hb : jd_B M' d d' cb cb' sb sb')
    (kk : ∀ v h', Q' v h' → jd_W G M d (cb - cb') (sb - sb') (pc + 3) ls (v.toList ++ rest) h' Q X) (kx : ∀ E h', X' E h' → jd_X G M d (cb - cb') (sb - sb') pc ls E h' Q X) : jd_W G M d cb sb pc ls st h Q X := by
  intro p l e R s m args below meth c H locs cells slots la C h1 h2 hP hS hl
  obtain ⟨hb1, hb2, hb3, hb4⟩ := hb
  have hts := C.2.2.2.2.2.2.2.1
  have hGU := C.2.2.2.2.2.2.2.2.1
  have hd1 := C.2.2.2.2.2.2.2.2.2.1
  have hd2 := C.2.2.2.2.2.2.2.2.2.2.1
  have hC' := hC l C.2.2.2.2.2.2.2.2.2.2.2.2
  have hws : jd_ws M' = wsW_ M'.2.1 M'.2.2.1 M'.2.2.2.1 M'.2.2.2.2.1 M'.2.2.2.2.2 := by unfold jd_ws; rw [hh]
  rw [hws] at hC'
  subst hst
  exact jd_fin C h1 h2 hS hl hb3 hb4 (vx_runSX ⟨C.1, C.2.1, C.2.2.1, C.2.2.2.2.2.2.1, hts⟩ hC' (vx_cwSW n hts (lw_SW q1 q2 q3 q4) rfl rfl rfl hn ⟨by show d' + 1 ≤ _; omega, by show 8 + (_ + 11) + 100 * d' ≤ _; omega⟩) ⟨jd_blind, jd_pre hGU hS hP⟩ rfl hlen hl.1 rfl (lv_room hw) dc ⟨by omega, by omega⟩) kk kx
/-- caught by the row x of the method's table -/
theorem jd_catch {G : jd_G} {M : jd_M} {d cb sb pc : Nat} {ls : List (Option Value)} {h : jd_H} {Q : Option Value → jd_H → Prop} {X : String → jd_H → Prop} {E nm : String} (pre : List (Nat × Nat × Nat × Nat)) (x : Nat × Nat × Nat × Nat) (suf : List (Nat × Nat × Nat × Nat)) (hh : M.2.2.2.2.2 = pre ++ x :: suf)
    (hpass : ∀ z ∈ pre, z.2.2.2 ≠ 0 ∧ ∃ nm' : String, Cond.classLink M.1 z.2.2.2 nm' ∈ lw_all ∧ ∀ U : State, jd_Wd G U → va_Nc E nm' U) (hx : covers ⟨x.1, x.2.1, x.2.2.1, x.2.2.2⟩ pc = true) (h0 : x.2.2.2 ≠ 0) (q : Cond.classLink M.1 x.2.2.2 nm ∈ lw_all) (qc : Cond.castable E nm ∈ lw_tbl) (kk : ∀ q : Nat, jd_W G M d cb sb x.2.2.1 ls [.ref q] h Q X) : jd_X G M d cb sb pc ls E h Q X := by
  intro p l e R s m args below meth c H locs cells slots la rest q' ce C h1 h2 hP hS hl hce hcv hcl
  have hts := C.2.2.2.2.2.2.2.1
  have hGU := C.2.2.2.2.2.2.2.2.1
  have ht := C.2.2.2.2.2.2.2.2.2.2.2.1
  refine vx_catch C.2.2.2.2.2.2.1 (tableOf pre) ⟨x.1, x.2.1, x.2.2.1, x.2.2.2⟩ (tableOf suf) (by rw [ht, hh]; simp [tableOf]) (fun z hz => Or.inr ?_) hx h0 (hts _ q) (va_Nw.use (A := args) rfl (hGU.1.2.1 _ qc rfl)) hce hcv hcl (kk q' p l e R s m args below meth c H locs cells slots la C h1 h2 hP hS hl)
  obtain ⟨z', hz', rfl⟩ := List.mem_map.mp hz
  obtain ⟨a, nm', b, c'⟩ := hpass z' hz'
  exact ⟨a, nm', hts _ b, c' s hGU.1⟩
theorem jd_ncA {G : jd_G} : ∀ U : State, jd_Wd G U → va_Nc "java/lang/IllegalArgumentException" "java/lang/IndexOutOfBoundsException" U := fun _ h => h.2.2.2.2.2.2.2.2.2.2.2.2.1
theorem jd_ncB {G : jd_G} : ∀ U : State, jd_Wd G U → va_Nc "java/lang/IllegalStateException" "java/lang/IndexOutOfBoundsException" U := fun _ h => h.2.2.2.2.2.2.2.2.2.2.2.2.2.1
theorem jd_ncC {G : jd_G} : ∀ U : State, jd_Wd G U → va_Nc "java/lang/IllegalStateException" "java/lang/IllegalArgumentException" U := fun _ h => h.2.2.2.2.2.2.2.2.2.2.2.2.2.2
/-- the script -/
theorem jd_sld {G : jd_G} {M : jd_M} {d cb sb pc n : Nat} {ls : List (Option Value)} {st : List Value} {h : jd_H} {Q : Option Value → jd_H → Prop} {X : String → jd_H → Prop} (hn : n < jd_k G 7) (hL : jd_k G 7 ≤ 320) (dc : decode M.2.2.1 pc = .ok (.iaload, 1)) (kk : jd_W G M d cb sb (pc + 1) ls (.int (jd_scr G n) :: st) h Q X) : jd_W G M d cb sb pc ls (.int (nI n) :: .ref (jd_k G 6) :: st) h Q X := by
  intro p l e R s m args below meth c H locs cells slots la C h1 h2 hP hS hl
  have hGU := C.2.2.2.2.2.2.2.2.1
  obtain ⟨hX, hA⟩ := hGU.2.1.2.2.2.2.2.2.2.2
  obtain ⟨scr, e1, -⟩ := id hX
  have hk := kk p l e R s m args below meth c H locs cells slots la C h1 h2 hP hS hl
  refine va_sld C.1 C.2.1 hX (Array.getElem?_eq_some_iff.mp e1).1 hA hS (vp_in_nI hn (by omega)) dc ?_
  rw [nI_clamp (by omega)]
  exact hk
theorem jd_slen {G : jd_G} {M : jd_M} {d cb sb pc : Nat} {ls : List (Option Value)} {st : List Value} {h : jd_H} {Q : Option Value → jd_H → Prop} {X : String → jd_H → Prop} (dc : decode M.2.2.1 pc = .ok (.arraylength, 1)) (kk : jd_W G M d cb sb (pc + 1) ls (.int (nI (jd_k G 7)) :: st) h Q X) : jd_W G M d cb sb pc ls (.ref (jd_k G 6) :: st) h Q X := by
  intro p l e R s m args below meth c H locs cells slots la C h1 h2 hP hS hl
  have hGU := C.2.2.2.2.2.2.2.2.1
  obtain ⟨hX, hA⟩ := hGU.2.1.2.2.2.2.2.2.2.2
  obtain ⟨scr, e1, -⟩ := id hX
  exact va_slen C.1 C.2.1 hX (Array.getElem?_eq_some_iff.mp e1).1 hA hS dc (kk p l e R s m args below meth c H locs cells slots la C h1 h2 hP hS hl)
/-- nothing is known of the heap at the start -/
theorem jd_Hp.empty {G : jd_G} {H : Heap} : jd_Hp G (fun _ => none) H := ⟨fun _ => none, ⟨fun i a v h => (by cases h), fun i j a v w h => (by cases h), fun x a v h => (by cases h)⟩, fun i a e h => (by cases h)⟩
/-- the law's method -/
abbrev mL_law : jd_M := ("LullabygateLaw", x, code, 7, ret, [])
/-- Out: what a call has brought -/
def WO (o : Nat) (n : Int64) (sv : Value) (h : jd_H) : Prop := h (40, 0) = some (o, .inl (.inr (14, [.long n, sv])))
/-- a wrapper's end: the number of the refusal, the answer in out -/
def jd_wr (G : jd_G) (β : ll_B) (κ : ll_K) (h : jd_H) (o : Nat) (sv : Value) (c : Nat) (v : Int32) (κ' : ll_K) : Option Value → jd_H → Prop := fun r h2 =>
  r = some (.int (nI c)) ∧ (∃ β' : ll_B, β' 0 0 = β 0 0 ∧ WC G β' (if c = 0 then κ' else κ) h2) ∧ (∃ n : Int64, WO o n sv h2 ∧ (c = 0 → n = v.toInt64)) ∧ ∀ j : jd_Id, 20 ≤ j.1 → j.1 < 40 → h2 j = h j
theorem jd_wr.no {G : jd_G} {β : ll_B} {κ κ' : ll_K} {h : jd_H} {o : Nat} {n : Int64} {sv : Value} {c k : Nat} {v x : Int32} (hc : c = k) (hk : k ≠ 0) (hx : x = nI k) (hw : WC G β κ h) (ho : WO o n sv h) : jd_wr G β κ h o sv c v κ' (some (.int x)) h := by
  subst hc
  exact ⟨by rw [hx], ⟨β, rfl, by rw [if_neg hk]; exact hw⟩, ⟨n, ho, fun e => absurd e hk⟩, fun _ _ _ => rfl⟩
theorem jd_wr.ok {G : jd_G} {β β' : ll_B} {κ κ' : ll_K} {h h2 : jd_H} {o : Nat} {n : Int64} {sv : Value} {c : Nat} {v x : Int32} (hc : c = 0) (hx : x = 0) (hb : β' 0 0 = β 0 0) (hw : WC G β' κ' h2) (ho : WO o n sv h2) (hn : n = v.toInt64) (hf : ∀ j : jd_Id, 20 ≤ j.1 → j.1 < 40 → h2 j = h j) : jd_wr G β κ h o sv c v κ' (some (.int x)) h2 := by
  subst hc
  exact ⟨by rw [hx]; rfl, ⟨β', hb, by rw [if_pos rfl]; exact hw⟩, ⟨n, ho, fun _ => hn⟩, hf⟩
theorem WO.at {o : Nat} {n : Int64} {sv : Value} {h : jd_H} (ho : WO o n sv h) : h (40, 0) = some (o, .inl (.inr (14, [.long n, sv]))) := ho
theorem WC.of {G : jd_G} {β : ll_B} {κ : ll_K} {h h' : jd_H} (hw : WC G β κ h) (ho : ∀ j : jd_Id, j.1 < 20 → h' j = h j) : WC G β κ h' := by
  have f_free := w_free hw
  have hx : ∀ {f j : Nat}, f < 20 → h' (f, j) = h (f, j) := fun {f j} a => ho _ a
  refine ⟨(hx (by decide)).trans (w_this hw), (hx (by decide)).trans (w_row hw), fun k hk => (hx (by decide)).trans (w_land hw k hk), fun k hk => (hx (by decide)).trans (w_gate hw k hk), fun k hk => (hx (by decide)).trans (w_sleeper hw k hk), fun k hk => (hx (by decide)).trans (w_part hw k hk), ?_, ?_, ?_, ?_, ?_, fun k hk => ?_, fun k hk => (hx (by decide)).trans (w_rev hw k hk), w_passN hw, fun k hk q hq => ⟨(hx (by decide)).trans (w_pass hw k hk q hq).1, (hx (by decide)).trans (w_pass hw k hk q hq).2⟩, fun k hk => (hx (by decide)).trans (w_hid hw k hk), fun k => ?_⟩
  · obtain ⟨m, hm⟩ := w_lands hw; exact ⟨m, (hx (by decide)).trans hm⟩
  · obtain ⟨m, hm⟩ := w_gates hw; exact ⟨m, (hx (by decide)).trans hm⟩
  · obtain ⟨m, hm⟩ := w_sleepers hw; exact ⟨m, (hx (by decide)).trans hm⟩
  · obtain ⟨m, hm⟩ := w_parts hw; exact ⟨m, (hx (by decide)).trans hm⟩
  · obtain ⟨m, hm⟩ := w_hidings hw; exact ⟨m, (hx (by decide)).trans hm⟩
  · obtain ⟨m, hm⟩ := w_queue hw k hk; exact ⟨m, (hx (by decide)).trans hm⟩
  · obtain ⟨g1, g2, g3⟩ := f_free k
    exact ⟨fun w => ⟨(hx (by decide)).trans (g1 w).1, (hx (by decide)).trans (g1 w).2.1, (hx (by decide)).trans (g1 w).2.2⟩, fun w => (hx (by decide)).trans (g2 w), fun w => (hx (by decide)).trans (g3 w)⟩
theorem WC.out {G : jd_G} {β : ll_B} {κ : ll_K} {h h' : jd_H} (hw : WC G β κ h) (ho : ∀ j : jd_Id, j ≠ (40, 0) → h' j = h j) : WC G β κ h' := hw.of (fun j hj => ho j (fun z => by rw [z] at hj; exact absurd hj (by decide)))
theorem WM.out {G : jd_G} {γ : ll_B} {κ : ll_K} {μ : ll_U} {h h' : jd_H} (hw : WM G γ κ μ h) (ho : ∀ j : jd_Id, 20 ≤ j.1 → j.1 < 40 → h' j = h j) : WM G γ κ μ h' := by
  have hx : ∀ {f j : Nat}, 20 ≤ f → f < 40 → h' (f, j) = h (f, j) := fun {f j} a b => ho _ a b
  have f_mfree := w_mfree hw
  refine ⟨(hx (by decide) (by decide)).trans (w_mthis hw), fun j hj => (hx (by decide) (by decide)).trans (w_mland hw j hj), fun j hj => (hx (by decide) (by decide)).trans (w_mgate hw j hj), fun j hj => (hx (by decide) (by decide)).trans (w_msleeper hw j hj), fun j hj => (hx (by decide) (by decide)).trans (w_mpart hw j hj), (hx (by decide) (by decide)).trans (w_mlands hw), (hx (by decide) (by decide)).trans (w_mmore hw), ?_, ?_, ?_, ?_, fun j hj => ?_, fun j hj => (hx (by decide) (by decide)).trans (w_mrev hw j hj), w_mdecl hw, w_mpass hw, fun j => ?_⟩
  · obtain ⟨m, hm⟩ := w_mgates hw; exact ⟨m, (hx (by decide) (by decide)).trans hm⟩
  · obtain ⟨m, hm⟩ := w_msleepers hw; exact ⟨m, (hx (by decide) (by decide)).trans hm⟩
  · obtain ⟨m, hm⟩ := w_mparts hw; exact ⟨m, (hx (by decide) (by decide)).trans hm⟩
  · obtain ⟨m, hm⟩ := w_mhidings hw; exact ⟨m, (hx (by decide) (by decide)).trans hm⟩
  · obtain ⟨m, hm⟩ := w_mqueue hw j hj; exact ⟨m, (hx (by decide) (by decide)).trans hm⟩
  · obtain ⟨f1, f2, f3⟩ := f_mfree j
    exact ⟨fun w => ⟨(hx (by decide) (by decide)).trans (f1 w).1, (hx (by decide) (by decide)).trans (f1 w).2.1, (hx (by decide) (by decide)).trans (f1 w).2.2⟩, fun w => (hx (by decide) (by decide)).trans (f2 w), fun w => (hx (by decide) (by decide)).trans (f3 w)⟩
theorem i_and31 (x : Int32) : ∃ w : Nat, w < 32 ∧ x &&& 31 = nI w := by
  obtain ⟨j, hj, e⟩ := pk_andE x (m := 31) 5 (by decide)
  exact ⟨j, by omega, e⟩
theorem i_scr {L k : Nat} (hL : L ≤ 320) (hk : k ≤ 100) (h : ¬ (nI L - 5) < nI (5 * k)) : 5 * k + 5 ≤ L := by
  have e5 : (5 : Int32).toInt = 5 := by decide
  rw [i_lt, i_sub (by rw [nI_toInt (by omega), e5]; omega) (by rw [nI_toInt (by omega), e5]; omega), nI_toInt (by omega), nI_toInt (by omega), e5] at h
  omega
theorem jd_b64 {p : Prop} [Decidable p] : (if p then 1 else 0 : Int64) = (jd_b p).toInt64 := by
  unfold jd_b; split <;> decide
theorem lg_self {x : Int64} : lg_cmp x x = 0 := by
  unfold lg_cmp; simp
theorem lg_b {p : Prop} [Decidable p] : lg_cmp (jd_b p).toInt64 (if jd_b p = 0 then 0 else 1) = 0 := by
  have : (if jd_b p = 0 then 0 else 1 : Int64) = (jd_b p).toInt64 := by
    unfold jd_b; split <;> decide
  rw [this]; exact lg_self
