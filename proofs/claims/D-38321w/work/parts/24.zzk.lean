/-! ===== zzk: names of places are changed; a new gate; the start ===== -/
theorem jd_Hp.map {G : jd_G} {h h' : jd_H} {H : Heap} (hP : jd_Hp G h H) (σ : jd_Id → jd_Id) (h1 : ∀ j x, h' j = some x → h (σ j) = some x) (h2 : ∀ j j', h' j ≠ none → h' j' ≠ none → σ j = σ j' → j = j') (h3 : ∀ x, h' (0, x) ≠ none → σ (0, x) = (0, x)) : jd_Hp G h' H := by
  obtain ⟨c, hc, hR⟩ := hP
  have hin : ∀ (j : jd_Id) (b : Bool) (y : Nat × va_E), (if h' j = none then none else c (σ j, b)) = some y → h' j ≠ none ∧ c (σ j, b) = some y := fun j b y e => by
    by_cases w : h' j = none
    · rw [if_pos w] at e; cases e
    · rw [if_neg w] at e; exact ⟨w, e⟩
  refine ⟨fun s => if h' s.1 = none then none else c (σ s.1, s.2), ⟨fun i a v e => hc.1 _ a v (hin i.1 i.2 _ e).2, fun i j a v w e1 e2 => ?_, fun x a v e => ?_⟩, fun i a e hi => ?_⟩
  · obtain ⟨n1, c1⟩ := hin i.1 i.2 _ e1
    obtain ⟨n2, c2⟩ := hin j.1 j.2 _ e2
    have := hc.2.1 _ _ _ _ _ c1 c2
    injection this with e3 e4
    exact Prod.ext (h2 _ _ n1 n2 e3) e4
  · obtain ⟨n1, c1⟩ := hin (0, x) false _ e
    rw [h3 x n1] at c1
    exact hc.2.2 x a v c1
  · have hn : h' i ≠ none := fun z => by rw [z] at hi; cases hi
    have h5 := hR _ a e (h1 i _ hi)
    have hk : ∀ b : Bool, (if h' i = none then none else c (σ i, b)) = c (σ i, b) := fun b => if_neg hn
    cases e with
    | inl v => exact (hk false).trans h5
    | inr x =>
      obtain ⟨b', cap, g, g1, g2, g3, g4, g5⟩ := h5
      exact ⟨b', cap, g, (hk false).trans g1, g2, g3, g4, g5.imp id (fun z => ⟨z.1, (hk true).trans z.2⟩)⟩
theorem jd_map {G : jd_G} {M : jd_M} {d cb sb pc : Nat} {ls : List (Option Value)} {st : List Value} {h h' : jd_H} {Q : Option Value → jd_H → Prop} {X : String → jd_H → Prop} (σ : jd_Id → jd_Id) (h1 : ∀ j x, h' j = some x → h (σ j) = some x) (h2 : ∀ j j', h' j ≠ none → h' j' ≠ none → σ j = σ j' → j = j') (h3 : ∀ x, h' (0, x) ≠ none → σ (0, x) = (0, x)) (k : jd_W G M d cb sb pc ls st h' Q X) : jd_W G M d cb sb pc ls st h Q X := by
  intro p l e R s m args below meth c H locs cells slots la C g1 g2 hP hS hl
  exact k p l e R s m args below meth c H locs cells slots la C g1 g2 (hP.map σ h1 h2 h3) hS hl
def k_addG (κ : ll_K) (o1 o2 : Nat) (fr hr : Int32) : ll_K :=
  (fun a b => if a = 9 ∧ b = 0 then nG κ + 1 else if a = 0 ∧ b = nG κ then o1 else if a = 1 ∧ b = nG κ then o2 else κ.1 a b,
   fun a b => if a = 7 ∧ b = nG κ then fr else if a = 8 ∧ b = nG κ then hr else if a = 9 ∧ b = nG κ then 5 else if a = 10 ∧ b = nG κ then 0 else κ.2.1 a b,
   κ.2.2.1, fun a b => if a = nG κ then false else gRev κ a b, κ.2.2.2.2.1, fun a => if a = nG κ then [] else gQue κ a, κ.2.2.2.2.2.2)
theorem wu_addG {G : jd_G} {β : ll_B} {κ : ll_K} {h h' : jd_H} (hw : WC G β κ h) {qg qa ql o1 o2 : Nat} {fr hr mc : Int32} (h4 : h' (4, nG κ) = some (qg, .inl (.inr (3, [.int (nI o1), .int (nI o2), .int fr, .int hr, .int 5, .int 0, .ref qa, .ref ql])))) (h5 : h' (5, nG κ) = some (ql, .inr (mc, 0, fun _ => β 5 12))) (h6 : h' (6, nG κ) = some (qa, zarr G (fun _ => false))) (hl : ∃ m, h' (2, 1) = some (β 0 3, .inr (m, nG κ + 1, va_up (β 2) (nG κ) qg))) (ho : ∀ j : jd_Id, j.1 ≠ 0 → j ≠ (4, nG κ) → j ≠ (5, nG κ) → j ≠ (6, nG κ) → j ≠ (2, 1) → h' j = h j) (hz : ∀ (a : Nat) (y : Nat × jd_E), h (0, a) = some y → h' (0, a) = some y) : WC G (ll_bu (ll_bu (ll_bu β 2 (nG κ) qg) 4 (nG κ) qa) 3 (nG κ) ql) (k_addG κ o1 o2 fr hr) h' := by
  have f1 := w_this hw
  have f2 := w_row hw
  have f3 := w_land hw
  have f4 := w_gate hw
  have f5 := w_sleeper hw
  have f6 := w_part hw
  have f12 := w_queue hw
  have f13 := w_rev hw
  have f14 := w_passN hw
  have f15 := w_pass hw
  have f16 := w_hid hw
  have f17 := w_free hw
  have hx : ∀ {f j : Nat}, f ≠ 0 → f ≠ 4 → f ≠ 5 → f ≠ 6 → f ≠ 2 → h' (f, j) = h (f, j) := fun {f j} a b c d e => ho _ a (fun z => b (by injection z)) (fun z => c (by injection z)) (fun z => d (by injection z)) (fun z => e (by injection z))
  have hx2 : ∀ {j : Nat}, j ≠ 1 → h' (2, j) = h (2, j) := fun {j} a => ho _ (show (2 : Nat) ≠ 0 by decide) (fun z => by injection z with z1 z2; exact absurd z1 (by decide)) (fun z => by injection z with z1 z2; exact absurd z1 (by decide)) (fun z => by injection z with z1 z2; exact absurd z1 (by decide)) (fun z => a (by injection z))
  have hxn : ∀ {f j : Nat}, (f = 4 ∨ f = 5 ∨ f = 6) → j ≠ nG κ → h' (f, j) = h (f, j) := fun {f j} a b => ho _ (fun z => by have : f = 0 := z; omega) (fun z => b (by injection z)) (fun z => b (by injection z)) (fun z => b (by injection z)) (fun z => by injection z with z1 z2; omega)
  have b2 : ∀ j, j ≠ nG κ → ll_bu (ll_bu (ll_bu β 2 (nG κ) qg) 4 (nG κ) qa) 3 (nG κ) ql 2 j = β 2 j := fun j e => (ll_bu_n (by omega)).trans ((ll_bu_n (by omega)).trans (ll_bu_n (fun z => e z.2)))
  have b2s : ll_bu (ll_bu (ll_bu β 2 (nG κ) qg) 4 (nG κ) qa) 3 (nG κ) ql 2 (nG κ) = qg := (ll_bu_n (by omega)).trans ((ll_bu_n (by omega)).trans ll_bu_s)
  have b4 : ∀ j, j ≠ nG κ → ll_bu (ll_bu (ll_bu β 2 (nG κ) qg) 4 (nG κ) qa) 3 (nG κ) ql 4 j = β 4 j := fun j e => (ll_bu_n (by omega)).trans ((ll_bu_n (fun z => e z.2)).trans (ll_bu_n (by omega)))
  have b4s : ll_bu (ll_bu (ll_bu β 2 (nG κ) qg) 4 (nG κ) qa) 3 (nG κ) ql 4 (nG κ) = qa := (ll_bu_n (by omega)).trans ll_bu_s
  have b3 : ∀ j, j ≠ nG κ → ll_bu (ll_bu (ll_bu β 2 (nG κ) qg) 4 (nG κ) qa) 3 (nG κ) ql 3 j = β 3 j := fun j e => (ll_bu_n (fun z => e z.2)).trans ((ll_bu_n (by omega)).trans (ll_bu_n (by omega)))
  have b3s : ll_bu (ll_bu (ll_bu β 2 (nG κ) qg) 4 (nG κ) qa) 3 (nG κ) ql 3 (nG κ) = ql := ll_bu_s
  have e1 : ∀ j, j ≠ nG κ → gOne (k_addG κ o1 o2 fr hr) j = gOne κ j ∧ gOther (k_addG κ o1 o2 fr hr) j = gOther κ j ∧ gFrom (k_addG κ o1 o2 fr hr) j = gFrom κ j ∧ gHours (k_addG κ o1 o2 fr hr) j = gHours κ j ∧ gOdds (k_addG κ o1 o2 fr hr) j = gOdds κ j ∧ gWatch (k_addG κ o1 o2 fr hr) j = gWatch κ j ∧ gRev (k_addG κ o1 o2 fr hr) j = gRev κ j ∧ gQue (k_addG κ o1 o2 fr hr) j = gQue κ j := fun j e => by
    refine ⟨?_, ?_, ?_, ?_, ?_, ?_, ?_, ?_⟩ <;> first | (simp [gOne, gOther, gFrom, gHours, gOdds, gWatch, gQue, k_addG, e]; done) | (funext v; exact if_neg e)
  have e2 : gOne (k_addG κ o1 o2 fr hr) (nG κ) = o1 ∧ gOther (k_addG κ o1 o2 fr hr) (nG κ) = o2 ∧ gFrom (k_addG κ o1 o2 fr hr) (nG κ) = fr ∧ gHours (k_addG κ o1 o2 fr hr) (nG κ) = hr ∧ gOdds (k_addG κ o1 o2 fr hr) (nG κ) = 5 ∧ gWatch (k_addG κ o1 o2 fr hr) (nG κ) = 0 ∧ gRev (k_addG κ o1 o2 fr hr) (nG κ) = (fun _ => false) ∧ gQue (k_addG κ o1 o2 fr hr) (nG κ) = [] := by
    refine ⟨?_, ?_, ?_, ?_, ?_, ?_, ?_, ?_⟩ <;> first | (simp [gOne, gOther, gFrom, gHours, gOdds, gWatch, gQue, k_addG]; done) | (funext v; exact if_pos rfl)
  have nn : nG (k_addG κ o1 o2 fr hr) = nG κ + 1 := rfl
  refine ⟨(hx (by decide) (by decide) (by decide) (by decide) (by decide)).trans f1, (hx (by decide) (by decide) (by decide) (by decide) (by decide)).trans f2, fun j hj => (hx (by decide) (by decide) (by decide) (by decide) (by decide)).trans (f3 j hj), fun j hj => ?_, fun j hj => (hx (by decide) (by decide) (by decide) (by decide) (by decide)).trans (f5 j hj), fun j hj => (hx (by decide) (by decide) (by decide) (by decide) (by decide)).trans (f6 j hj), ?_, ?_, ?_, ?_, ?_, fun j hj => ?_, fun j hj => ?_, fun j hj hp => f14 j hj hp, fun j hj r hr2 => ⟨hz _ _ (f15 j hj r hr2).1, hz _ _ (f15 j hj r hr2).2⟩, fun j hj => hz _ _ (f16 j hj), fun j => ?_⟩
  · rw [nn] at hj
    by_cases e : j = nG κ
    · subst e
      obtain ⟨a1, a2, a3, a4, a5, a6, a7, a8⟩ := e2
      rw [b2s, b4s, b3s, a1, a2, a3, a4, a5, a6]
      exact h4
    · obtain ⟨a1, a2, a3, a4, a5, a6, a7, a8⟩ := e1 j e
      rw [b2 j e, b4 j e, b3 j e, a1, a2, a3, a4, a5, a6]
      exact (hxn (by simp) e).trans (f4 j (by omega))
  · obtain ⟨m, hm⟩ := w_lands hw; exact ⟨m, (hx2 (by decide)).trans hm⟩
  · obtain ⟨m, hm⟩ := hl
    refine ⟨m, hm.trans ?_⟩
    have : va_up (β 2) (nG κ) qg = (ll_bu (ll_bu (ll_bu β 2 (nG κ) qg) 4 (nG κ) qa) 3 (nG κ) ql) 2 := by
      funext j
      by_cases e : j = nG κ
      · subst e; rw [b2s]; exact if_pos rfl
      · rw [b2 j e]; exact if_neg e
    rw [this]; rfl
  · obtain ⟨m, hm⟩ := w_sleepers hw; exact ⟨m, (hx2 (by decide)).trans hm⟩
  · obtain ⟨m, hm⟩ := w_parts hw; exact ⟨m, (hx2 (by decide)).trans hm⟩
  · obtain ⟨m, hm⟩ := w_hidings hw; exact ⟨m, (hx2 (by decide)).trans hm⟩
  · rw [nn] at hj
    by_cases e : j = nG κ
    · subst e
      rw [b3s, e2.2.2.2.2.2.2.2]
      exact ⟨mc, h5⟩
    · rw [b3 j e, (e1 j e).2.2.2.2.2.2.2]
      obtain ⟨m, hm⟩ := f12 j (by omega)
      exact ⟨m, (hxn (by simp) e).trans hm⟩
  · rw [nn] at hj
    by_cases e : j = nG κ
    · subst e
      rw [b4s, e2.2.2.2.2.2.2.1]
      exact h6
    · rw [b4 j e, (e1 j e).2.2.2.2.2.2.1]
      exact (hxn (by simp) e).trans (f13 j (by omega))
  · refine ⟨fun w => ?_, fun w => (hx (by decide) (by decide) (by decide) (by decide) (by decide)).trans ((f17 j).2.1 w), fun w => (hx (by decide) (by decide) (by decide) (by decide) (by decide)).trans ((f17 j).2.2 w)⟩
    rw [nn] at w
    have e : j ≠ nG κ := by omega
    have := (f17 j).1 (by omega)
    exact ⟨(hxn (by simp) e).trans this.1, (hxn (by simp) e).trans this.2.1, (hxn (by simp) e).trans this.2.2⟩
/-- a new gate's three objects get their places -/
theorem jd_map3 {G : jd_G} {M : jd_M} {d cb sb pc : Nat} {ls : List (Option Value)} {st : List Value} {h : jd_H} {Q : Option Value → jd_H → Prop} {X : String → jd_H → Prop} {x y z n : Nat} {ex ey ez : Nat × jd_E} (hx : h (0, x) = some ex) (hy : h (0, y) = some ey) (hz : h (0, z) = some ez) (hxy : x ≠ y) (hxz : x ≠ z) (hyz : y ≠ z) (k : ∀ h' : jd_H, h' (4, n) = some ex → h' (5, n) = some ey → h' (6, n) = some ez → (∀ j : jd_Id, j ≠ (4, n) → j ≠ (5, n) → j ≠ (6, n) → j ≠ (0, x) → j ≠ (0, y) → j ≠ (0, z) → h' j = h j) → jd_W G M d cb sb pc ls st h' Q X) : jd_W G M d cb sb pc ls st h Q X := by
  have d1 : ((5, n) : jd_Id) ≠ (4, n) := fun w => by cases w
  have d2 : ((6, n) : jd_Id) ≠ (4, n) := fun w => by cases w
  have d3 : ((6, n) : jd_Id) ≠ (5, n) := fun w => by cases w
  refine jd_map (h' := fun j => if j = (4, n) then h (0, x) else if j = (5, n) then h (0, y) else if j = (6, n) then h (0, z) else if j = (0, x) ∨ j = (0, y) ∨ j = (0, z) then none else h j) (fun j => if j = (4, n) then (0, x) else if j = (5, n) then (0, y) else if j = (6, n) then (0, z) else j) (fun j v e => ?_) (fun j j' e e' w => ?_) (fun v e => ?_) (k _ ?_ ?_ ?_ (fun j a b c d e f => ?_))
  · by_cases a : j = (4, n)
    · simp only [if_pos a] at e ⊢; exact e
    · by_cases b : j = (5, n)
      · simp only [if_neg a, if_pos b] at e ⊢; exact e
      · by_cases c : j = (6, n)
        · simp only [if_neg a, if_neg b, if_pos c] at e ⊢; exact e
        · simp only [if_neg a, if_neg b, if_neg c] at e ⊢
          by_cases f : j = (0, x) ∨ j = (0, y) ∨ j = (0, z)
          · rw [if_pos f] at e; cases e
          · rw [if_neg f] at e; exact e
  · have cl : ∀ j : jd_Id, (if j = (4, n) then h (0, x) else if j = (5, n) then h (0, y) else if j = (6, n) then h (0, z) else if j = (0, x) ∨ j = (0, y) ∨ j = (0, z) then none else h j) ≠ none → (j = (4, n) ∧ (if j = (4, n) then (0, x) else if j = (5, n) then (0, y) else if j = (6, n) then (0, z) else j) = (0, x)) ∨ (j = (5, n) ∧ (if j = (4, n) then (0, x) else if j = (5, n) then (0, y) else if j = (6, n) then (0, z) else j) = (0, y)) ∨ (j = (6, n) ∧ (if j = (4, n) then (0, x) else if j = (5, n) then (0, y) else if j = (6, n) then (0, z) else j) = (0, z)) ∨ ((if j = (4, n) then (0, x) else if j = (5, n) then (0, y) else if j = (6, n) then (0, z) else j) = j ∧ j ≠ (0, x) ∧ j ≠ (0, y) ∧ j ≠ (0, z)) := fun j e => by
      by_cases a : j = (4, n)
      · exact Or.inl ⟨a, by rw [if_pos a]⟩
      · by_cases b : j = (5, n)
        · exact Or.inr (Or.inl ⟨b, by rw [if_neg a, if_pos b]⟩)
        · by_cases c : j = (6, n)
          · exact Or.inr (Or.inr (Or.inl ⟨c, by rw [if_neg a, if_neg b, if_pos c]⟩))
          · rw [if_neg a, if_neg b, if_neg c] at e
            by_cases f : j = (0, x) ∨ j = (0, y) ∨ j = (0, z)
            · rw [if_pos f] at e; exact absurd rfl e
            · exact Or.inr (Or.inr (Or.inr ⟨by rw [if_neg a, if_neg b, if_neg c], fun z => f (Or.inl z), fun z => f (Or.inr (Or.inl z)), fun z => f (Or.inr (Or.inr z))⟩))
    have c1 := cl j e
    have c2 := cl j' e'
    rw [w] at c1
    rcases c1 with ⟨a, a'⟩ | ⟨a, a'⟩ | ⟨a, a'⟩ | ⟨a, b, c, d⟩ <;> rcases c2 with ⟨f, f'⟩ | ⟨f, f'⟩ | ⟨f, f'⟩ | ⟨f, g, i, o⟩ <;> first
      | exact a.trans f.symm
      | exact absurd (congrArg Prod.snd (a'.symm.trans f')) hxy
      | exact absurd (congrArg Prod.snd (a'.symm.trans f')) hxz
      | exact absurd (congrArg Prod.snd (a'.symm.trans f')) hyz
      | exact absurd (congrArg Prod.snd (f'.symm.trans a')) hxy
      | exact absurd (congrArg Prod.snd (f'.symm.trans a')) hxz
      | exact absurd (congrArg Prod.snd (f'.symm.trans a')) hyz
      | exact absurd (f.symm.trans a') g
      | exact absurd (f.symm.trans a') i
      | exact absurd (f.symm.trans a') o
      | exact absurd (a.symm.trans f') b
      | exact absurd (a.symm.trans f') c
      | exact absurd (a.symm.trans f') d
      | exact a.symm.trans f
  · have a : ((0, v) : jd_Id) ≠ (4, n) := fun w => by cases w
    have b : ((0, v) : jd_Id) ≠ (5, n) := fun w => by cases w
    have c : ((0, v) : jd_Id) ≠ (6, n) := fun w => by cases w
    simp only [if_neg a, if_neg b, if_neg c]
  · simp only [if_true]; exact hx
  · simp only [if_neg d1, if_true]; exact hy
  · simp only [if_neg d2, if_neg d3, if_true]; exact hz
  · simp only [if_neg a, if_neg b, if_neg c]
    rw [if_neg (fun w => by rcases w with w | w | w; exact d w; exact e w; exact f w)]
def c_gate (κ : ll_K) (o1 o2 fr hr : Int32) : Nat := if ¬ o1 < 0 ∧ o1 < 6 then (if ¬ o2 < 0 ∧ o2 < 6 then (if ¬ tN o1 = tN o2 then (if inR fr 0 23 then (if inR hr 1 24 then (if ¬ 8 ≤ nG κ then 0 else 3) else 2) else 2) else 2) else 1) else 1
/-- a list's content behind its end -/
theorem jd_lst {G : jd_G} {M : jd_M} {d cb sb pc : Nat} {ls : List (Option Value)} {st : List Value} {h : jd_H} {Q : Option Value → jd_H → Prop} {X : String → jd_H → Prop} {i : jd_Id} {a n : Nat} {mc : Int32} {f : Nat → Nat} (hi : h i = some (a, .inr (mc, n, f))) {f2 : Nat → Nat} (hf : ∀ k, k < n → f k = f2 k) (k : jd_W G M d cb sb pc ls st (jd_up h i (a, .inr (mc, n, f2))) Q X) : jd_W G M d cb sb pc ls st h Q X := by
  intro p l e R s m args below meth c H locs cells slots la C g1 g2 hP hS hl
  refine k p l e R s m args below meth c H locs cells slots la C g1 g2 ?_ hS hl
  obtain ⟨c, hc, hR⟩ := hP
  refine ⟨c, hc, fun j b e hj => ?_⟩
  by_cases w : j = i
  · subst w
    rw [jd_up_s] at hj
    cases hj
    obtain ⟨b', cap, g, x1, x2, x3, x4, x5⟩ := hR j a _ hi
    exact ⟨b', cap, g, x1, x2, x3, fun k hk => (x4 k hk).trans (congrArg some (hf k hk)), x5⟩
  · rw [jd_up_n w] at hj
    exact hR j b e hj
