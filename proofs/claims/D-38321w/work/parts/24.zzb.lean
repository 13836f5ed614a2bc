/-! ===== zzb: queues that wear ===== -/
def wq (P : Nat → Bool) (l : List Nat) (i : Nat) : List Nat := (l.take i).filter P ++ l.drop i
abbrev wk (P : Nat → Bool) (l : List Nat) (i : Nat) : Nat := ((l.take i).filter P).length
theorem gd_get {l : List Nat} {i : Nat} (hi : i < l.length) : l.getD i 12 = l[i] := by
  rw [List.getD_eq_getElem?_getD, List.getElem?_eq_getElem hi]; rfl
theorem wq_len {P : Nat → Bool} {l : List Nat} {i : Nat} : (wq P l i).length = wk P l i + (l.length - i) := by
  simp [wq, wk]
theorem wq_get {P : Nat → Bool} {l : List Nat} {i : Nat} (hi : i < l.length) : (wq P l i).getD (wk P l i) 12 = l.getD i 12 := by
  rw [List.getD_eq_getElem?_getD, List.getD_eq_getElem?_getD, wq, List.getElem?_append_right (Nat.le_refl _), Nat.sub_self, List.getElem?_drop, Nat.add_zero]
theorem take_s {l : List Nat} {i : Nat} (hi : i < l.length) : l.take (i + 1) = l.take i ++ [l.getD i 12] := by
  rw [gd_get hi, List.take_succ_eq_append_getElem hi]
theorem drop_s {l : List Nat} {i : Nat} (hi : i < l.length) : l.drop i = l.getD i 12 :: l.drop (i + 1) := by
  rw [gd_get hi]; exact List.drop_eq_getElem_cons hi
theorem wq_y {P : Nat → Bool} {l : List Nat} {i : Nat} (hi : i < l.length) (hp : P (l.getD i 12) = true) : wq P l i = wq P l (i + 1) ∧ wk P l (i + 1) = wk P l i + 1 := by
  constructor
  · rw [wq, wq, take_s hi, drop_s hi, List.filter_append, List.filter_cons_of_pos hp, List.filter_nil, List.append_assoc]; rfl
  · rw [wk, take_s hi, List.filter_append, List.filter_cons_of_pos hp, List.filter_nil, List.length_append]; rfl
theorem wq_n {P : Nat → Bool} {l : List Nat} {i : Nat} (hi : i < l.length) (hp : P (l.getD i 12) = false) : (wq P l i).eraseIdx (wk P l i) = wq P l (i + 1) ∧ wk P l (i + 1) = wk P l i := by
  constructor
  · rw [wq, wq, take_s hi, drop_s hi, List.filter_append, List.eraseIdx_append_of_length_le (Nat.le_refl _), List.filter_cons_of_neg (by rw [hp]; decide), List.filter_nil, List.append_nil, Nat.sub_self]; rfl
  · rw [wk, take_s hi, List.filter_append, List.filter_cons_of_neg (by rw [hp]; decide), List.filter_nil, List.append_nil]
theorem take_mem {l : List Nat} {i : Nat} (hi : i < l.length) (b : Nat) : decide (b ∈ l.take (i + 1)) = (decide (b ∈ l.take i) || decide (b = l.getD i 12)) := by
  rw [take_s hi]; simp
theorem take_nd {l : List Nat} {i : Nat} (hnd : l.Nodup) (hi : i < l.length) : decide (l.getD i 12 ∈ l.take i) = false := by
  rw [decide_eq_false_iff_not]
  intro hm
  rw [← List.take_append_drop i l, drop_s hi] at hnd
  have := (List.nodup_append.mp hnd).2.2
  exact this _ hm _ (List.mem_cons_self) rfl
abbrev wkP (κ : ll_K) : Nat → Bool := fun s => decide (¬ sPat κ s = 1)
def k_wearC (κ : ll_K) (g i : Nat) : ll_K := k_wear κ g (fun b => decide (b ∈ (gQue κ g).take i)) (wq (wkP κ) (gQue κ g) i)
def k_wearA (κ : ll_K) (g : Nat) : ll_K := k_wear κ g (fun b => decide (b ∈ gQue κ g)) ((gQue κ g).filter (wkP κ))
theorem wearC0 {κ : ll_K} {g : Nat} : k_wearC κ g 0 = κ := by
  have : wq (wkP κ) (gQue κ g) 0 = gQue κ g := by simp [wq]
  rw [k_wearC, this]
  exact wear0 (fun b => by simp)
theorem wearCn {κ : ll_K} {g : Nat} : k_wearC κ g (gQue κ g).length = k_wearA κ g := by
  rw [k_wearC, k_wearA, wq, List.take_length, List.drop_length, List.append_nil]
theorem sub1_0 {x : Int32} : x - 1 = 0 ↔ x = 1 := by
  constructor
  · intro e; have := congrArg (· + 1) e; simpa using this
  · intro e; rw [e]; rfl
theorem wearC_pat {κ : ll_K} {g i : Nat} (hnd : (gQue κ g).Nodup) (hi : i < (gQue κ g).length) : sPat (k_wearC κ g i) (qAt κ g i) = sPat κ (qAt κ g i) := by
  have h := take_nd hnd hi
  simp only [k_wearC, k_wear, sPat]
  rw [if_neg (fun w => by rw [h] at w; exact absurd w.2.1 (by decide)), if_neg (fun w => by rw [h] at w; exact absurd w.2 (by decide))]
theorem wearC_q {κ : ll_K} {g i : Nat} : gQue (k_wearC κ g i) g = wq (wkP κ) (gQue κ g) i := if_pos rfl
theorem wearC_y {κ : ll_K} {g i : Nat} (hnd : (gQue κ g).Nodup) (hi : i < (gQue κ g).length) (h1 : ¬ sPat κ (qAt κ g i) = 1) : ll_sz (k_wearC κ g i) 11 (qAt κ g i) (sPat (k_wearC κ g i) (qAt κ g i) - 1) = k_wearC κ g (i + 1) :=
  wear_y (take_mem hi) (take_nd hnd hi) h1 (wq_y hi (decide_eq_true h1)).1
theorem wearC_d {κ : ll_K} {g i : Nat} (hnd : (gQue κ g).Nodup) (hi : i < (gQue κ g).length) (h1 : sPat κ (qAt κ g i) = 1) : k_wake (ll_sq (ll_sz (k_wearC κ g i) 11 (qAt κ g i) (sPat (k_wearC κ g i) (qAt κ g i) - 1)) g ((gQue (k_wearC κ g i) g).eraseIdx (wk (wkP κ) (gQue κ g) i))) (qAt κ g i) = k_wearC κ g (i + 1) := by
  rw [wearC_q, (wq_n hi (show wkP κ ((gQue κ g).getD i 12) = false from decide_eq_false (fun w => w h1))).1]
  exact wear_d (take_mem hi) (take_nd hnd hi) h1
theorem cnt_congr {P Q : Nat → Prop} [DecidablePred P] [DecidablePred Q] (n : Nat) (h : ∀ p, P p ↔ Q p) : ll_cnt P n = ll_cnt Q n := by
  induction n with
  | zero => rfl
  | succ n ih =>
    show ll_cnt P n + jd_b (P n) = ll_cnt Q n + jd_b (Q n)
    rw [ih, jd_bcong (h n)]
theorem wk_0 {P : Nat → Bool} {l : List Nat} : 0 = wk P l 0 := by simp [wk]
theorem wk_le {P : Nat → Bool} {l : List Nat} {i : Nat} : wk P l i ≤ l.length :=
  Nat.le_trans (List.length_filter_le _ _) (by rw [List.length_take]; omega)
theorem wearC_z {κ : ll_K} {g i : Nat} (hnd : (gQue κ g).Nodup) (hi : i < (gQue κ g).length) : sPat (ll_sz (k_wearC κ g i) 11 (qAt κ g i) (sPat (k_wearC κ g i) (qAt κ g i) - 1)) (qAt κ g i) = 0 ↔ sPat κ (qAt κ g i) = 1 := by
  have e : sPat (ll_sz (k_wearC κ g i) 11 (qAt κ g i) (sPat (k_wearC κ g i) (qAt κ g i) - 1)) (qAt κ g i) = sPat (k_wearC κ g i) (qAt κ g i) - 1 := if_pos ⟨rfl, rfl⟩
  rw [e, wearC_pat hnd hi]
  exact sub1_0
theorem wearC_hd {κ : ll_K} {g i p j : Nat} (h : pHead (k_wearC κ g i) p = some j) : pHead κ p = some j := by
  simp only [k_wearC, k_wear, pHead] at h ⊢
  split at h
  · cases h
  · split at h
    · cases h
    · exact h
theorem er_len {l : List Nat} {p : Nat} (h : p < l.length) : l.length - 1 = (l.eraseIdx p).length := (List.length_eraseIdx_of_lt h).symm
theorem er_get {l : List Nat} {p j : Nat} : (l.eraseIdx p).getD j 12 = if j < p then l.getD j 12 else l.getD (j + 1) 12 := by
  simp only [List.getD_eq_getElem?_getD, List.getElem?_eraseIdx]
  split <;> rfl
theorem er_fun (b : Nat → Nat) {l : List Nat} {p : Nat} : (fun j => if j < p then b (l.getD j 12) else b (l.getD (j + 1) 12)) = fun j => b ((l.eraseIdx p).getD j 12) := by
  funext j
  rw [er_get]
  split <;> rfl
