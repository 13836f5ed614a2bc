/-! ===== wy: ways ===== -/
theorem jd_tmp {h : jd_H} {f k q : Nat} {x y : Nat × jd_E} (e : h (f + 1, k) = some y) : jd_up h (0, q) x (f + 1, k) = some y := by
  rw [jd_up_n]
  · exact e
  · intro w; injection w with w1 w2; omega
theorem WC.tmp {G : jd_G} {β : ll_B} {κ : ll_K} {h : jd_H} (hw : WC G β κ h) {q : Nat} (hq : h (0, q) = none) {x : Nat × jd_E} : WC G β κ (jd_up h (0, q) x) := by
  have hz : ∀ {a : Nat} {y : Nat × jd_E}, h (0, a) = some y → jd_up h (0, q) x (0, a) = some y := fun {a y} e => by
    rw [jd_up_n]
    · exact e
    · intro w; injection w with w1 w2; subst w2; rw [hq] at e; cases e
  have hN : ∀ {f k : Nat}, jd_up h (0, q) x (f + 1, k) = h (f + 1, k) := fun {f k} => jd_up_n (fun w => by injection w with w1 w2; omega)
  refine ⟨jd_tmp (w_this hw), jd_tmp (w_row hw), fun k hk => jd_tmp (w_land hw k hk), fun k hk => jd_tmp (w_gate hw k hk), fun k hk => jd_tmp (w_sleeper hw k hk), fun k hk => jd_tmp (w_part hw k hk), ?_, ?_, ?_, ?_, ?_, ?_, fun k hk => jd_tmp (w_rev hw k hk), w_passN hw, fun k hk p hp => ⟨hz (w_pass hw k hk p hp).1, hz (w_pass hw k hk p hp).2⟩, fun k hk => hz (w_hid hw k hk), fun k => ?_⟩
  · obtain ⟨m, hm⟩ := w_lands hw; exact ⟨m, jd_tmp hm⟩
  · obtain ⟨m, hm⟩ := w_gates hw; exact ⟨m, jd_tmp hm⟩
  · obtain ⟨m, hm⟩ := w_sleepers hw; exact ⟨m, jd_tmp hm⟩
  · obtain ⟨m, hm⟩ := w_parts hw; exact ⟨m, jd_tmp hm⟩
  · obtain ⟨m, hm⟩ := w_hidings hw; exact ⟨m, jd_tmp hm⟩
  · intro k hk; obtain ⟨m, hm⟩ := w_queue hw k hk; exact ⟨m, jd_tmp hm⟩
  · obtain ⟨f1, f2, f3⟩ := w_free hw k
    exact ⟨fun w => ⟨hN.trans (f1 w).1, hN.trans (f1 w).2.1, hN.trans (f1 w).2.2⟩, fun w => hN.trans (f2 w), fun w => hN.trans (f3 w)⟩
/-- an array of ints -/
abbrev jd_ia (G : jd_G) (n : Nat) (f : Nat → Int32) : jd_E := .inl (.inl (G.2.1 0, n, .inl f))
/-- a new array of ints is the answer -/
def jd_na (G : jd_G) (h : jd_H) (n : Nat) (f : Nat → Int32) : Option Value → jd_H → Prop := fun v h' => ∃ q, h (0, q) = none ∧ v = some (.ref q) ∧ h' = jd_up h (0, q) (q, jd_ia G n f)
theorem upd_fun {f g : Nat → Int32} {k : Nat} {v : Int32} (h1 : g k = v) (h2 : ∀ x, x ≠ k → g x = f x) : upd f k v = g := by
  funext x
  by_cases e : x = k
  · subst e; simp [upd, h1]
  · simp [upd, e, h2 x e]
abbrev ll_W : Type := Nat → Option Nat
def goW (W : ll_W) (a b t : Nat) : ll_W := if (∃ u, W a = some u ∧ u ≤ t) ∧ W b = none then fun x => if x = b then some (t + 1) else W x else W
def hrAt (κ : ll_K) (t : Nat) : Int32 := jd_rem (nI (nHour κ) + nI t) 24
def gateW (κ : ll_K) (t : Nat) (W : ll_W) (k : Nat) : ll_W := if openAt κ k (hrAt κ t) then goW (goW W (gOne κ k) (gOther κ k) t) (gOther κ k) (gOne κ k) t else W
def gatesW (κ : ll_K) (t : Nat) (W : ll_W) : Nat → ll_W
  | 0 => W
  | k + 1 => gateW κ t (gatesW κ t W k) k
def wayW (κ : ll_K) (f : Nat) : Nat → ll_W
  | 0 => fun x => if x = f then some 0 else none
  | t + 1 => gatesW κ t (wayW κ f t) (nG κ)
def ll_WB (W : ll_W) (t : Nat) : Prop := ∀ x j, W x = some j → j ≤ t
theorem goW_B {W : ll_W} {a b t : Nat} (h : ll_WB W (t + 1)) : ll_WB (goW W a b t) (t + 1) := by
  intro x j hj
  unfold goW at hj
  split at hj
  · simp only at hj
    split at hj
    · injection hj with hj; omega
    · exact h x j hj
  · exact h x j hj
theorem gatesW_B {κ : ll_K} {W : ll_W} {t : Nat} (h : ll_WB W (t + 1)) (k : Nat) : ll_WB (gatesW κ t W k) (t + 1) := by
  induction k with
  | zero => exact h
  | succ k ih =>
    unfold gatesW gateW
    split
    · exact goW_B (goW_B ih)
    · exact ih
theorem wayW_B {κ : ll_K} {f : Nat} (t : Nat) : ll_WB (wayW κ f t) t := by
  induction t with
  | zero =>
    intro x j hj
    unfold wayW at hj
    split at hj
    · injection hj with hj; omega
    · cases hj
  | succ t ih => exact gatesW_B (fun x j hj => Nat.le_succ_of_le (ih x j hj)) (nG κ)
/-- the array of ways -/
def aW (W : ll_W) : Nat → Int32 := fun x => if x < 6 then oI (W x) else 0
theorem aW_at {W : ll_W} {x : Nat} (h : x < 6) : aW W x = oI (W x) := if_pos h
theorem aW_go {W : ll_W} {a b t u : Nat} (h1 : W a = some u) (h2 : u ≤ t) (h3 : W b = none) (hb : b < 6) : upd (aW W) b (nI (t + 1)) = aW (goW W a b t) := by
  rw [goW, if_pos ⟨⟨u, h1, h2⟩, h3⟩]
  refine upd_fun ?_ (fun x hx => ?_)
  · rw [aW_at hb, if_pos rfl]; rfl
  · unfold aW
    split
    · simp only [if_neg hx]
    · rfl
theorem goW_no {W : ll_W} {a b t : Nat} (h : ¬ ((∃ u, W a = some u ∧ u ≤ t) ∧ W b = none)) : goW W a b t = W := if_neg h
def aW0 (κ : ll_K) (f k : Nat) : Nat → Int32 := fun x => if x < k then oI (wayW κ f 0 x) else 0
theorem aW0_0 {κ : ll_K} {f : Nat} : aW0 κ f 0 = fun _ => 0 := by
  funext x; exact if_neg (Nat.not_lt_zero x)
theorem aW0_6 {κ : ll_K} {f : Nat} : aW0 κ f 6 = aW (wayW κ f 0) := rfl
theorem aW0_s {κ : ll_K} {f k : Nat} : upd (aW0 κ f k) k (if k = f then 0 else -1) = aW0 κ f (k + 1) := by
  refine upd_fun ?_ (fun x hx => ?_)
  · show (if k < k + 1 then oI (if k = f then some 0 else none) else 0) = _
    rw [if_pos (Nat.lt_succ_self k)]
    by_cases e : k = f
    · rw [if_pos e, if_pos e]; rfl
    · rw [if_neg e, if_neg e]; rfl
  · show (if x < k + 1 then _ else _) = (if x < k then _ else _)
    by_cases e : x < k
    · rw [if_pos e, if_pos (by omega)]
    · rw [if_neg e, if_neg (by omega)]
theorem gateW_no {κ : ll_K} {t : Nat} {W : ll_W} {k : Nat} (h : ¬ openAt κ k (hrAt κ t)) : gatesW κ t W (k + 1) = gatesW κ t W k := if_neg h
theorem gateW_yes {κ : ll_K} {t : Nat} {W : ll_W} {k : Nat} (h : openAt κ k (hrAt κ t)) : gatesW κ t W (k + 1) = goW (goW (gatesW κ t W k) (gOne κ k) (gOther κ k) t) (gOther κ k) (gOne κ k) t := if_pos h
