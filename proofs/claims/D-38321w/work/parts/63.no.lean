/-! ===== no: an hour of the model, pure; arrays behind their end ===== -/
theorem jd_arr {G : jd_G} {M : jd_M} {d cb sb pc : Nat} {ls : List (Option Value)} {st : List Value} {h : jd_H} {Q : Option Value → jd_H → Prop} {X : String → jd_H → Prop} {i : jd_Id} {a n : Nat} {cA : ClassId} {f : Nat → Int32} (hi : h i = some (a, .inl (.inl (cA, n, .inl f)))) {f2 : Nat → Int32} (hf : ∀ k, k < n → f k = f2 k) (k : jd_W G M d cb sb pc ls st (jd_up h i (a, .inl (.inl (cA, n, .inl f2)))) Q X) : jd_W G M d cb sb pc ls st h Q X := by
  intro p l e R s m args below meth c H locs cells slots la C g1 g2 hP hS hl
  refine k p l e R s m args below meth c H locs cells slots la C g1 g2 ?_ hS hl
  have hat : va_at G.1 jd_cl (a, .inl (cA, n, .inl f)) H := hP.at hi
  refine hP.wr hi ?_ (fun _ _ => rfl)
  show H[a]? = some (vp_cell cA (n, .inl f2))
  have h1 : H[a]? = some (vp_cell cA (n, .inl f)) := hat
  rw [h1]
  refine congrArg some ?_
  show arrV cA n (fun j => .int (f j)) = arrV cA n (fun j => .int (f2 j))
  have : (fun j : Fin n => (Value.int (f j.val))) = fun j : Fin n => Value.int (f2 j.val) := funext fun j => by rw [hf j.val j.isLt]
  simp only [arrV, this]
def mu_m (μ : ll_U) (F : Nat → Int32) : ll_U := (fun a b => if a = 1 then F b else μ.1 a b, μ.2)
theorem mu_mm {μ : ll_U} {F F' : Nat → Int32} : mu_m (mu_m μ F) F' = mu_m μ F' := by
  refine Prod.ext (funext fun a => funext fun b => ?_) rfl
  show (if a = 1 then _ else if a = 1 then _ else _) = if a = 1 then _ else _
  split <;> rfl
theorem mu_m_id {μ : ll_U} : mu_m μ (μ.1 1) = μ := by
  refine Prod.ext (funext fun a => funext fun b => ?_) rfl
  show (if a = 1 then _ else _) = _
  split
  · next e => rw [e]
  · rfl
theorem mu_m_at {μ : ll_U} {F : Nat → Int32} : (mu_m μ F).1 1 = F := rfl
theorem m_more {G : jd_G} {γ : ll_B} {κ : ll_K} {μ : ll_U} {h h' : jd_H} (hw : WM G γ κ μ h) {F : Nat → Int32} (hs : h' (21, 6) = some (γ 0 6, .inl (.inl (G.2.1 1, 776, .inl F)))) (ho : ∀ j : jd_Id, j ≠ (21, 6) → h' j = h j) : WM G γ κ (mu_m μ F) h' := by
  have f_mthis := w_mthis hw
  have f_mgates := w_mgates hw
  have f_msleepers := w_msleepers hw
  have f_mparts := w_mparts hw
  have f_mhidings := w_mhidings hw
  have f_mqueue := w_mqueue hw
  have f_mfree := w_mfree hw
  have f_mdecl := w_mdecl hw
  have f_mpass := w_mpass hw
  have hx : ∀ {f j : Nat}, f ≠ 21 → h' (f, j) = h (f, j) := fun {f j} a => ho _ (fun z => a (by injection z))
  have hx2 : ∀ {j : Nat}, j ≠ 6 → h' (21, j) = h (21, j) := fun {j} a => ho _ (fun z => a (by injection z))
  refine ⟨(hx2 (by decide)).trans f_mthis, fun j hj => (hx (by decide)).trans (w_mland hw j hj), fun j hj => (hx (by decide)).trans (w_mgate hw j hj), fun j hj => (hx (by decide)).trans (w_msleeper hw j hj), fun j hj => (hx (by decide)).trans (w_mpart hw j hj), (hx2 (by decide)).trans (w_mlands hw), hs, ?_, ?_, ?_, ?_, fun j hj => ?_, fun j hj => (hx (by decide)).trans (w_mrev hw j hj), f_mdecl, f_mpass, fun j => ?_⟩
  · obtain ⟨m, hm⟩ := f_mgates; exact ⟨m, (hx (by decide)).trans hm⟩
  · obtain ⟨m, hm⟩ := f_msleepers; exact ⟨m, (hx (by decide)).trans hm⟩
  · obtain ⟨m, hm⟩ := f_mparts; exact ⟨m, (hx (by decide)).trans hm⟩
  · obtain ⟨m, hm⟩ := f_mhidings; exact ⟨m, (hx (by decide)).trans hm⟩
  · obtain ⟨m, hm⟩ := f_mqueue j hj; exact ⟨m, (hx (by decide)).trans hm⟩
  · obtain ⟨f1, f2, f3⟩ := f_mfree j
    exact ⟨fun w => ⟨(hx (by decide)).trans (f1 w).1, (hx (by decide)).trans (f1 w).2.1, (hx (by decide)).trans (f1 w).2.2⟩, fun w => (hx (by decide)).trans (f2 w), fun w => (hx (by decide)).trans (f3 w)⟩
theorem upd_ap {f : Nat → Int32} {k : Nat} {v : Int32} {x : Nat} : upd f k v x = if x = k then v else f x := by
  by_cases e : x = k
  · subst e; simp [upd]
  · simp [upd, e]
/-- what comes to be revoked, by places of the array: rows before g are whole, row g holds o others and v verses of the next -/
def moB (κ : ll_K) (g o v x : Nat) : Bool := if x / 97 < g then spV κ (x / 97) (nG κ) (x % 97) else if x / 97 = g then spM κ g o v (x % 97) else false
def moF (κ : ll_K) (g o v : Nat) : Nat → Int32 := fun x => jd_b (moB κ g o v x = true)
theorem moF_0 {κ : ll_K} {x : Nat} : moF κ 0 0 0 x = 0 := by
  have : moB κ 0 0 0 x = false := by
    unfold moB
    rw [if_neg (by omega)]
    split
    · simp [spM, spV]
    · rfl
  show jd_b (moB κ 0 0 0 x = true) = 0
  rw [this]; rfl
theorem moF_row {κ : ll_K} {g : Nat} : moF κ g (nG κ) 0 = moF κ (g + 1) 0 0 := by
  funext x
  show jd_b (moB κ g (nG κ) 0 x = true) = jd_b (moB κ (g + 1) 0 0 x = true)
  have : moB κ g (nG κ) 0 x = moB κ (g + 1) 0 0 x := by
    unfold moB
    rw [← spM_0]
    rcases Nat.lt_trichotomy (x / 97) g with h | h | h
    · rw [if_pos h, if_pos (by omega)]
    · rw [if_neg (by omega), if_pos h, if_pos (by omega), h]
    · rw [if_neg (by omega), if_neg (by omega), if_neg (by omega)]
      split
      · simp [spM, spV]
      · rfl
  rw [this]
theorem moF_o {κ : ll_K} {g o : Nat} (h : o = g ∨ besN κ o g) : moF κ g o 97 = moF κ g (o + 1) 0 := by
  funext x
  show jd_b (moB κ g o 97 x = true) = jd_b (moB κ g (o + 1) 0 x = true)
  unfold moB
  rw [spM_y h, ← spM_0]
theorem moF_n {κ : ll_K} {g o : Nat} (h : ¬ (o = g ∨ besN κ o g)) : moF κ g o 0 = moF κ g (o + 1) 0 := by
  funext x
  show jd_b (moB κ g o 0 x = true) = jd_b (moB κ g (o + 1) 0 x = true)
  unfold moB
  rw [← spM_0, spM_n h, ← spM_0]
theorem spM_s {κ : ll_K} {g o v x : Nat} : spM κ g o (v + 1) x = (spM κ g o v x || (decide (x = v) && gRev κ o x)) := by
  unfold spM
  by_cases e : x = v
  · subst e; simp
  · by_cases e2 : x < v
    · have e3 : x < v + 1 := by omega
      simp [e, e2, e3]
    · have e3 : ¬ x < v + 1 := by omega
      simp [e, e2, e3]
theorem moF_y {κ : ll_K} {g o v : Nat} (hv : v < 97) (h : gRev κ o v = true) : upd (moF κ g o v) (g * 97 + v) 1 = moF κ g o (v + 1) := by
  funext x
  rw [upd_ap]
  show _ = jd_b (moB κ g o (v + 1) x = true)
  by_cases e : x = g * 97 + v
  · have : moB κ g o (v + 1) x = true := by
      unfold moB
      rw [if_neg (by omega), if_pos (by omega), spM_s, show x % 97 = v by omega, h]; simp
    rw [if_pos e, this]; rfl
  · rw [if_neg e]
    show jd_b (moB κ g o v x = true) = _
    have : moB κ g o v x = moB κ g o (v + 1) x := by
      unfold moB
      split
      · rfl
      · split
        · have e4 : ¬ x % 97 = v := by omega
          rw [spM_s]; simp [e4]
        · rfl
    rw [this]
theorem moF_f {κ : ll_K} {g o v : Nat} (h : ¬ gRev κ o v = true) : moF κ g o v = moF κ g o (v + 1) := by
  funext x
  show jd_b (moB κ g o v x = true) = jd_b (moB κ g o (v + 1) x = true)
  have : moB κ g o v x = moB κ g o (v + 1) x := by
    unfold moB
    split
    · rfl
    · split
      · rw [spM_s]
        by_cases e : x % 97 = v
        · rw [e]; simp [h]
        · simp [e]
      · rfl
  rw [this]
theorem moF_at {κ : ll_K} {g v : Nat} (hg : g < nG κ) (hv : v < 97) : moF κ (nG κ) 0 0 (g * 97 + v) = jd_b (spV κ g (nG κ) v = true) := by
  show jd_b (moB κ (nG κ) 0 0 (g * 97 + v) = true) = _
  unfold moB
  rw [if_pos (by omega), show (g * 97 + v) / 97 = g by omega, show (g * 97 + v) % 97 = v by omega]
theorem spV_self {κ : ll_K} {k v : Nat} (hv : v < 97) (h : gRev κ k v = true) : ∀ n, k < n → spV κ k n v = true
  | 0, hn => absurd hn (Nat.not_lt_zero k)
  | n + 1, hn => by
    show (spV κ k n v || (decide (v < 97) && (decide (n = k ∨ besN κ n k) && gRev κ n v))) = true
    by_cases e : n = k
    · subst e; simp [hv, h]
    · rw [spV_self hv h n (by omega)]; rfl
/-- gate k's revoked ones, the first v of them new -/
def revV (κ : ll_K) (k v : Nat) : Nat → Bool := fun x => if x < v then spV κ k (nG κ) x else gRev κ k x
theorem revV_0 {κ : ll_K} {k : Nat} : revV κ k 0 = gRev κ k := by
  funext x; exact if_neg (Nat.not_lt_zero x)
theorem revV_y {κ : ll_K} {k v : Nat} (h : spV κ k (nG κ) v = true) : (fun x => if x = v then true else revV κ k v x) = revV κ k (v + 1) := by
  funext x
  show (if x = v then true else if x < v then _ else _) = if x < v + 1 then _ else _
  by_cases e : x = v
  · subst e; rw [if_pos rfl, if_pos (by omega), h]
  · rw [if_neg e]
    by_cases e2 : x < v
    · rw [if_pos e2, if_pos (by omega)]
    · rw [if_neg e2, if_neg (by omega)]
theorem revV_n {κ : ll_K} {k v : Nat} (hk : k < nG κ) (hv : v < 97) (h : ¬ spV κ k (nG κ) v = true) : revV κ k v = revV κ k (v + 1) := by
  funext x
  show (if x < v then _ else _) = if x < v + 1 then _ else _
  by_cases e : x = v
  · subst e
    rw [if_neg (Nat.lt_irrefl _), if_pos (by omega)]
    cases e2 : gRev κ k x with
    | false => cases e3 : spV κ k (nG κ) x with
      | false => rfl
      | true => exact absurd e3 h
    | true => exact absurd (spV_self hv e2 _ hk) h
  · by_cases e2 : x < v
    · rw [if_pos e2, if_pos (by omega)]
    · rw [if_neg e2, if_neg (by omega)]
theorem sr_sr {κ : ll_K} {k : Nat} {V V' : Nat → Bool} : ll_sr (ll_sr κ k V) k V' = ll_sr κ k V' := by
  refine ll_Kext (fun _ _ => rfl) (fun _ _ => rfl) (fun _ _ => rfl) (fun a b => ?_) (fun _ => rfl) (fun _ => rfl) rfl (fun _ => rfl)
  simp only [ll_sr]; split <;> rfl
theorem sr_id {κ : ll_K} {k : Nat} : ll_sr κ k (gRev κ k) = κ := by
  refine ll_Kext (fun _ _ => rfl) (fun _ _ => rfl) (fun _ _ => rfl) (fun a b => ?_) (fun _ => rfl) (fun _ => rfl) rfl (fun _ => rfl)
  simp only [ll_sr]; split
  · next e => rw [e]
  · rfl
/-- the state as gate k's turn comes -/
def k_beg (κ : ll_K) (k : Nat) : ll_K := k_wch (k_spP κ k) k
theorem beg_0 {κ : ll_K} : k_beg κ 0 = κ := by rw [k_beg, spP_0, wch_0]
theorem beg_n {κ : ll_K} : k_beg κ (nG κ) = k_wch (k_spread κ) (nG κ) := rfl
theorem beg_rev {κ : ll_K} {k : Nat} : gRev (k_beg κ k) k = gRev κ k := by
  funext x
  show (if k < k then _ else _) = _
  rw [if_neg (Nat.lt_irrefl k)]
theorem beg_r0 {κ : ll_K} {k : Nat} : ll_sr (k_beg κ k) k (revV κ k 0) = k_beg κ k := by
  rw [revV_0, ← beg_rev]; exact sr_id
theorem beg_r1 {κ : ll_K} {k : Nat} : ll_sr (k_beg κ k) k (spV κ k (nG κ)) = k_wch (k_spP κ (k + 1)) k := by
  rw [← spP_s]; rfl
theorem beg_s {κ : ll_K} {k : Nat} : ll_sz (k_wch (k_spP κ (k + 1)) k) 10 k (if openAt (k_wch (k_spP κ (k + 1)) k) k (nI (nHour (k_wch (k_spP κ (k + 1)) k))) then gWatch (k_wch (k_spP κ (k + 1)) k) k + 1 else 0) = k_beg κ (k + 1) := wch_s
theorem dn2_y2 {κ : ll_K} {k : Nat} {q : Nat × Nat × Nat} (h1 : sPass κ k = some q) (h2 : q.2.1 < nNight κ) : ll_sp (k_dn2 κ k) k none = k_dn2 κ (k + 1) := by
  have e : sPass (k_dn2 κ k) k = some q := by rw [dn2_at]; exact h1
  exact dn2_y (by rw [e]; rfl) (by simp only [psN, e, Option.getD_some]; exact h2)
theorem dn2_n2 {κ : ll_K} {k : Nat} (h : ∀ q, sPass κ k = some q → ¬ q.2.1 < nNight κ) : k_dn2 κ k = k_dn2 κ (k + 1) := by
  refine dn2_n (fun w => ?_)
  rw [dn2_at] at w
  obtain ⟨q, hq⟩ := Option.isSome_iff_exists.mp w.1
  have e : sPass (k_dn2 κ k) k = some q := by rw [dn2_at]; exact hq
  have w2 := w.2
  simp only [psN, e, Option.getD_some] at w2
  exact h q hq w2
