/-! ===== zze: the invariant is kept by queues ===== -/
theorem adj_pw {B : Nat → Bool} {l : List Nat} : (∀ j, j + 1 < l.length → B (l.getD (j + 1) 12) = true → B (l.getD j 12) = true) ↔ l.Pairwise (fun a b => B b = true → B a = true) := by
  rw [List.pairwise_iff_getElem]
  constructor
  · intro h
    have key : ∀ d i, (hd : i + d + 1 < l.length) → B (l.getD (i + d + 1) 12) = true → B (l.getD i 12) = true := by
      intro d
      induction d with
      | zero => intro i hd hb; exact h i hd hb
      | succ d ih => intro i hd hb; exact ih i (by omega) (h (i + d + 1) (by omega) hb)
    intro i j hi hj hij hb
    obtain ⟨d, rfl⟩ : ∃ d, j = i + d + 1 := ⟨j - i - 1, by omega⟩
    have := key d i hj (by rw [gd_get hj]; exact hb)
    rw [gd_get hi] at this
    exact this
  · intro h j hj hb
    have := h j (j + 1) (by omega) hj (by omega) (by rw [gd_get hj] at hb; exact hb)
    rw [gd_get (by omega)]
    exact this
theorem er_mem {l : List Nat} (hnd : l.Nodup) {p : Nat} (hp : p < l.length) (x : Nat) : x ∈ l.eraseIdx p ↔ x ∈ l ∧ x ≠ l.getD p 12 := by
  have e : l = l.take p ++ l.getD p 12 :: l.drop (p + 1) := by
    rw [← drop_s hp]; exact (List.take_append_drop p l).symm
  have hnd2 : (l.take p ++ l.getD p 12 :: l.drop (p + 1)).Nodup := e ▸ hnd
  obtain ⟨h1, h2, h3⟩ := List.nodup_append.mp hnd2
  rw [List.eraseIdx_eq_take_drop_succ]
  constructor
  · intro hx
    rcases List.mem_append.mp hx with w | w
    · exact ⟨List.mem_of_mem_take w, fun z => h3 _ w _ (List.mem_cons_self) z⟩
    · exact ⟨List.mem_of_mem_drop w, fun z => (List.nodup_cons.mp h2).1 (z ▸ w)⟩
  · rintro ⟨hx, hn⟩
    rw [e] at hx
    rcases List.mem_append.mp hx with w | w
    · exact List.mem_append.mpr (Or.inl w)
    · rcases List.mem_cons.mp w with w | w
      · exact absurd w hn
      · exact List.mem_append.mpr (Or.inr w)
/-- the queue's clause, by lists -/
abbrev qOk (κ : ll_K) (k : Nat) (l : List Nat) : Prop := l.length ≤ 12 ∧ l.Nodup ∧ (∀ s ∈ l, s < nS κ ∧ sRest κ s = 1 ∧ sGate κ s = some k ∧ (gOne κ k = sLand κ s ∨ gOther κ k = sLand κ s)) ∧ l.Pairwise (fun a b => sBaby κ b = true → sBaby κ a = true)
theorem qOk_of {κ : ll_K} (hI : ll_I κ) {k : Nat} (hk : k < nG κ) : qOk κ k (gQue κ k) := by
  have h := hI.2.1 k hk
  exact ⟨h.2.2.1, h.2.2.2.1, h.2.2.2.2.1, adj_pw.mp h.2.2.2.2.2⟩
section DEQ
variable {κ : ll_K} {g p : Nat}
def k_deq (κ : ll_K) (g p : Nat) : ll_K := k_lie (ll_sq κ g ((gQue κ g).eraseIdx p)) (qAt κ g p)
theorem deq_q {k : Nat} : gQue (k_deq κ g p) k = if k = g then (gQue κ g).eraseIdx p else gQue κ k := rfl
theorem deq_rest {j : Nat} : sRest (k_deq κ g p) j = if j = qAt κ g p then 0 else sRest κ j := by simp [sRest, k_deq, k_lie, ll_sz, ll_so, ll_sn, ll_sq]
theorem deq_gate {j : Nat} : sGate (k_deq κ g p) j = if j = qAt κ g p then none else sGate κ j := by simp [sGate, k_deq, k_lie, ll_sz, ll_so, ll_sn, ll_sq]
theorem deq_decl {j : Nat} : sDecl (k_deq κ g p) j = if j = qAt κ g p then 0 else sDecl κ j := by simp [sDecl, k_deq, k_lie, ll_sz, ll_so, ll_sn, ll_sq]
theorem deq_pat {j : Nat} : sPat (k_deq κ g p) j = sPat κ j := by simp [sPat, k_deq, k_lie, ll_sz, ll_so, ll_sn, ll_sq]
theorem I_deq (hI : ll_I κ) (hg : g < nG κ) (hp : p < (gQue κ g).length) : ll_I (k_deq κ g p) := by
  have hq := qOk_of hI hg
  have hm := hq.2.2.1 _ (qAt_mem hp)
  refine ⟨hI.1, fun k hk => ?_, fun j hj => ?_, hI.2.2.2⟩
  · have h1 := hI.2.1 k hk
    have ho := qOk_of hI hk
    refine ⟨h1.1, h1.2.1, ?_⟩
    by_cases e : k = g
    · subst e
      rw [deq_q, if_pos rfl]
      have hs := List.eraseIdx_sublist (gQue κ k) p
      refine ⟨Nat.le_trans hs.length_le hq.1, hs.nodup hq.2.1, fun s hs2 => ?_, ?_⟩
      · obtain ⟨a, b⟩ := (er_mem hq.2.1 hp s).mp hs2
        rw [deq_rest, deq_gate, if_neg b, if_neg b]
        exact hq.2.2.1 s a
      · have := adj_pw.mpr (hq.2.2.2.sublist hs)
        intro j
        simp only [qAt, deq_q, if_true]
        exact this j
    · have e2 : gQue (k_deq κ g p) k = gQue κ k := by rw [deq_q, if_neg e]
      rw [e2]
      refine ⟨ho.1, ho.2.1, fun s hs => ?_, ?_⟩
      · have h2 := ho.2.2.1 s hs
        have b : s ≠ qAt κ g p := fun z => by rw [z, hm.2.2.1] at h2; exact e (Option.some.inj h2.2.2.1).symm
        rw [deq_rest, deq_gate, if_neg b, if_neg b]
        exact h2
      · intro j
        show j + 1 < _ → sBaby κ ((gQue (k_deq κ g p) k).getD (j + 1) 12) = true → sBaby κ ((gQue (k_deq κ g p) k).getD j 12) = true
        rw [e2]
        exact h1.2.2.2.2.2 j
  · have h1 := hI.2.2.1 j hj
    rw [deq_rest, deq_gate, deq_decl, deq_pat]
    by_cases e : j = qAt κ g p
    · rw [if_pos e, if_pos e, if_pos e]
      refine ⟨h1.1, by decide, fun g2 w => (by cases w), fun w => absurd w (by decide), fun _ => rfl, h1.2.2.2.2.2.1, fun w => absurd w (by decide), fun _ => ?_, h1.2.2.2.2.2.2.2.2.1, fun w => absurd w (by decide)⟩
      exact h1.2.2.2.2.2.2.2.1 (by rw [e, hm.2.1]; decide)
    · rw [if_neg e, if_neg e, if_neg e]
      refine ⟨h1.1, h1.2.1, h1.2.2.1, fun w => ?_, h1.2.2.2.2.1, h1.2.2.2.2.2.1, h1.2.2.2.2.2.2.1, h1.2.2.2.2.2.2.2.1, h1.2.2.2.2.2.2.2.2.1, h1.2.2.2.2.2.2.2.2.2⟩
      obtain ⟨g2, a, b, c⟩ := h1.2.2.2.1 w
      refine ⟨g2, a, b, ?_⟩
      rw [deq_q]
      split
      · next z => subst z; exact (er_mem hq.2.1 hp j).mpr ⟨c, e⟩
      · exact c
end DEQ
theorem i1 : (1 : Int32).toInt = 1 := by decide
theorem i9 : (9 : Int32).toInt = 9 := by decide
theorem pat_dec {x : Int32} (h0 : 0 < x) (h9 : x ≤ 9) : 0 ≤ x - 1 ∧ x - 1 ≤ 9 ∧ (¬ x = 1 → 0 < x - 1) := by
  rw [i_lt, i0] at h0
  rw [i_le, i9] at h9
  have e : (x - 1).toInt = x.toInt - 1 := by rw [i_sub (by rw [i1]; omega) (by rw [i1]; omega), i1]
  refine ⟨by rw [i_le, i0, e]; omega, by rw [i_le, i9, e]; omega, fun hn => ?_⟩
  rw [i_lt, i0, e]
  have : x.toInt ≠ 1 := fun z => hn (Int32.toInt_inj.mp (by rw [i1]; exact z))
  omega
section WEAR
variable {κ : ll_K} {g : Nat}
theorem wA_q {k : Nat} : gQue (k_wearA κ g) k = if k = g then (gQue κ g).filter (wkP κ) else gQue κ k := rfl
theorem wA_rest {j : Nat} : sRest (k_wearA κ g) j = if j ∈ gQue κ g ∧ sPat κ j = 1 then 2 else sRest κ j := by simp [sRest, k_wearA, k_wear]
theorem wA_gate {j : Nat} : sGate (k_wearA κ g) j = if j ∈ gQue κ g ∧ sPat κ j = 1 then none else sGate κ j := by simp [sGate, k_wearA, k_wear]
theorem wA_decl {j : Nat} : sDecl (k_wearA κ g) j = if j ∈ gQue κ g ∧ sPat κ j = 1 then 0 else sDecl κ j := by simp [sDecl, k_wearA, k_wear]
theorem wA_pat {j : Nat} : sPat (k_wearA κ g) j = if j ∈ gQue κ g then sPat κ j - 1 else sPat κ j := by simp [sPat, k_wearA, k_wear]
theorem wA_head {p j : Nat} : pHead (k_wearA κ g) p = some j → pHead κ p = some j := by
  intro h
  simp only [pHead, k_wearA, k_wear] at h ⊢
  split at h
  · cases h
  · split at h
    · cases h
    · exact h
theorem wA_headn {p j : Nat} (h : pHead κ p = some j) (hp : p < nP κ) (hj : j ∈ gQue κ g ∧ sPat κ j = 1) : pHead (k_wearA κ g) p = none := by
  have h' : κ.2.2.1 1 p = some j := h
  have hp' : p < κ.1 9 2 := hp
  have hj2 : κ.2.1 11 j = 1 := hj.2
  simp [pHead, k_wearA, k_wear, h', hp', hj.1, hj2, sPat, gQue] at hj ⊢
theorem wA_heady {p j : Nat} (h : pHead κ p = some j) (hj : ¬ (j ∈ gQue κ g ∧ sPat κ j = 1)) : pHead (k_wearA κ g) p = some j := by
  have h' : κ.2.2.1 1 p = some j := h
  have hj' : ¬ (j ∈ κ.2.2.2.2.2.1 g ∧ κ.2.1 11 j = 1) := hj
  simp [pHead, k_wearA, k_wear, h', sPat, gQue]
  intro _ a b
  exact hj' ⟨a, b⟩
theorem I_wearA (hI : ll_I κ) (hg : g < nG κ) : ll_I (k_wearA κ g) := by
  have hq := qOk_of hI hg
  refine ⟨hI.1, fun k hk => ?_, fun j hj => ?_, fun p hp => ?_, hI.2.2.2.2⟩
  · have h1 := hI.2.1 k hk
    have ho := qOk_of hI hk
    refine ⟨h1.1, h1.2.1, ?_⟩
    by_cases e : k = g
    · subst e
      rw [wA_q, if_pos rfl]
      have hs : List.Sublist ((gQue κ k).filter (wkP κ)) (gQue κ k) := List.filter_sublist
      refine ⟨Nat.le_trans hs.length_le hq.1, hs.nodup hq.2.1, fun s hs2 => ?_, ?_⟩
      · obtain ⟨a, b⟩ := List.mem_filter.mp hs2
        have b2 : ¬ (s ∈ gQue κ k ∧ sPat κ s = 1) := fun w => of_decide_eq_true b w.2
        rw [wA_rest, wA_gate, if_neg b2, if_neg b2]
        exact hq.2.2.1 s a
      · have := adj_pw.mpr (hq.2.2.2.sublist hs)
        intro j
        simp only [qAt, wA_q, if_true]
        exact this j
    · have e2 : gQue (k_wearA κ g) k = gQue κ k := by rw [wA_q, if_neg e]
      rw [e2]
      refine ⟨ho.1, ho.2.1, fun s hs => ?_, ?_⟩
      · have h2 := ho.2.2.1 s hs
        have b : ¬ (s ∈ gQue κ g ∧ sPat κ s = 1) := fun z => by
          have h3 := (hq.2.2.1 s z.1).2.2.1
          rw [h2.2.2.1] at h3
          exact e (Option.some.inj h3)
        rw [wA_rest, wA_gate, if_neg b, if_neg b]
        exact h2
      · intro j
        show j + 1 < _ → sBaby κ ((gQue (k_wearA κ g) k).getD (j + 1) 12) = true → sBaby κ ((gQue (k_wearA κ g) k).getD j 12) = true
        rw [e2]
        exact h1.2.2.2.2.2 j
  · have h1 := hI.2.2.1 j hj
    rw [wA_rest, wA_gate, wA_decl, wA_pat]
    have hpat : 0 ≤ (if j ∈ gQue κ g then sPat κ j - 1 else sPat κ j) ∧ (if j ∈ gQue κ g then sPat κ j - 1 else sPat κ j) ≤ 9 := by
      split
      · next e =>
        have := pat_dec (h1.2.2.2.2.2.2.2.1 (by rw [(hq.2.2.1 j e).2.1]; decide)) h1.2.2.2.2.2.1.2
        exact ⟨this.1, this.2.1⟩
      · exact h1.2.2.2.2.2.1
    by_cases e : j ∈ gQue κ g ∧ sPat κ j = 1
    · rw [if_pos e, if_pos e, if_pos e]
      refine ⟨h1.1, by decide, fun g2 w => (by cases w), fun w => absurd w (by decide), fun _ => rfl, hpat, fun _ p hp hh => ?_, fun w => absurd rfl w, h1.2.2.2.2.2.2.2.2.1, fun w => absurd w (by decide)⟩
      rw [wA_headn (wA_head hh) hp e] at hh
      cases hh
    · rw [if_neg e, if_neg e, if_neg e]
      refine ⟨h1.1, h1.2.1, h1.2.2.1, fun w => ?_, h1.2.2.2.2.1, hpat, fun w p hp hh => h1.2.2.2.2.2.2.1 w p hp (wA_head hh), fun w => ?_, h1.2.2.2.2.2.2.2.2.1, fun w p hp hd => ?_⟩
      · obtain ⟨g2, a, b, c⟩ := h1.2.2.2.1 w
        refine ⟨g2, a, b, ?_⟩
        rw [wA_q]
        split
        · next z => subst z; exact List.mem_filter.mpr ⟨c, decide_eq_true (fun z => e ⟨c, z⟩)⟩
        · exact c
      · split
        · next z => exact (pat_dec (h1.2.2.2.2.2.2.2.1 w) h1.2.2.2.2.2.1.2).2.2 (fun y => e ⟨z, y⟩)
        · exact h1.2.2.2.2.2.2.2.1 w
      · have := h1.2.2.2.2.2.2.2.2.2 w p hp hd
        exact ⟨this.1, wA_heady this.2 e⟩
  · have h1 := hI.2.2.2.1 p hp
    refine ⟨fun j hj => h1.1 j (wA_head hj), fun l hl => ⟨(h1.2.1 l hl).1, ?_⟩, h1.2.2⟩
    cases e : pHead (k_wearA κ g) p with
    | none => rfl
    | some j => have := wA_head e; rw [(h1.2.1 l hl).2] at this; cases this
end WEAR
