/-! ===== zzg: how a queue is cut and put together ===== -/
def qcut (l : List Nat) (P i : Nat) : List Nat := l.take P ++ l.drop (P + i)
def qput (l : List Nat) (P s k : Nat) : List Nat := l.take P ++ s :: (l.drop P).take k
theorem qcut0 {l : List Nat} {P : Nat} : qcut l P 0 = l := List.take_append_drop P l
theorem qcut_len {l : List Nat} {P i : Nat} (h : P + i ≤ l.length) : (qcut l P i).length = l.length - i := by
  rw [qcut, List.length_append, List.length_take, List.length_drop]; omega
theorem qcut_get {l : List Nat} {P i : Nat} (h : P + i < l.length) : (qcut l P i).getD P 12 = l.getD (P + i) 12 := by
  rw [List.getD_eq_getElem?_getD, List.getD_eq_getElem?_getD, qcut, List.getElem?_append_right (by rw [List.length_take]; omega), List.length_take, Nat.min_eq_left (by omega), Nat.sub_self, List.getElem?_drop, Nat.add_zero]
theorem qcut_er {l : List Nat} {P i : Nat} (h : P + i < l.length) : (qcut l P i).eraseIdx P = qcut l P (i + 1) := by
  rw [qcut, qcut, drop_s h, List.eraseIdx_append_of_length_le (by rw [List.length_take]; omega), List.length_take, Nat.min_eq_left (by omega), Nat.sub_self]
  rfl
theorem qcut_mem {l : List Nat} {P i x : Nat} (h : x ∈ qcut l P i) : x ∈ l := by
  rcases List.mem_append.mp h with w | w
  · exact List.mem_of_mem_take w
  · exact List.mem_of_mem_drop w
theorem qcut_end {l : List Nat} {P i s : Nat} (h : P + i = l.length) : qcut l P i ++ [s] = qput l P s 0 := by
  rw [qcut, h, List.drop_length, List.append_nil, qput, List.take_zero]
theorem qput_len {l : List Nat} {P s k : Nat} (h : P + k ≤ l.length) : (qput l P s k).length = P + k + 1 := by
  rw [qput, List.length_append, List.length_cons, List.length_take, List.length_take, List.length_drop]; omega
theorem qput_s {l : List Nat} {P s k : Nat} (h : P + k < l.length) : qput l P s k ++ [l.getD (P + k) 12] = qput l P s (k + 1) := by
  rw [qput, qput, List.append_assoc, List.cons_append]
  have h2 : k < (l.drop P).length := by rw [List.length_drop]; omega
  have e : (l.drop P).take (k + 1) = (l.drop P).take k ++ [l.getD (P + k) 12] := by
    rw [List.take_succ_eq_append_getElem h2, List.getElem_drop, gd_get h]
  rw [e]
theorem qput_end {l : List Nat} {P s k : Nat} (h : P + k = l.length) : qput l P s k = l.insertIdx P s := by
  rw [ins_eq (by omega), qput, List.take_of_length_le (i := k) (l := l.drop P) (by rw [List.length_drop]; omega)]
theorem qput_mem {l : List Nat} {P s k x : Nat} (h : x ∈ qput l P s k) : x = s ∨ x ∈ l := by
  rcases List.mem_append.mp h with w | w
  · exact Or.inr (List.mem_of_mem_take w)
  · rcases List.mem_cons.mp w with w | w
    · exact Or.inl w
    · exact Or.inr (List.mem_of_mem_drop (List.mem_of_mem_take w))
theorem gd_mem {l : List Nat} {j : Nat} (h : j < l.length) : l.getD j 12 ∈ l := by rw [gd_get h]; exact List.getElem_mem h
def restF (b : Nat → Nat) (l : List Nat) (P i : Nat) : Nat → Nat := fun j => if j < i then b (l.getD (P + j) 12) else 0
theorem rest0 {b : Nat → Nat} {l : List Nat} {P : Nat} : restF b l P 0 = fun _ => 0 := by
  funext j; exact if_neg (Nat.not_lt_zero j)
theorem rest_at {b : Nat → Nat} {l : List Nat} {P i j : Nat} (h : j < i) : restF b l P i j = b (l.getD (P + j) 12) := if_pos h
theorem app_len {l : List Nat} {x : Nat} : l.length + 1 = (l ++ [x]).length := by rw [List.length_append]; rfl
theorem sq_q {κ : ll_K} {g : Nat} {a : List Nat} : gQue (ll_sq κ g a) g = a := if_pos rfl
theorem sq_at {κ : ll_K} {g j : Nat} {a : List Nat} : qAt (ll_sq κ g a) g j = a.getD j 12 := by
  show (gQue (ll_sq κ g a) g).getD j 12 = _
  rw [sq_q]
theorem sq_sq {κ : ll_K} {g : Nat} {a b : List Nat} : ll_sq (ll_sq κ g a) g b = ll_sq κ g b := by
  refine ll_Kext (fun _ _ => rfl) (fun _ _ => rfl) (fun _ _ => rfl) (fun _ _ => rfl) (fun _ => rfl) (fun x => ?_) rfl (fun _ => rfl)
  simp only [ll_sq]; split <;> rfl
theorem sq_id {κ : ll_K} {g : Nat} : ll_sq κ g (gQue κ g) = κ := by
  refine ll_Kext (fun _ _ => rfl) (fun _ _ => rfl) (fun _ _ => rfl) (fun _ _ => rfl) (fun _ => rfl) (fun x => ?_) rfl (fun _ => rfl)
  simp only [ll_sq]
  split
  · next e => rw [e]
  · rfl
theorem place_mem {κ : ll_K} {g s : Nat} (h : s ∈ gQue κ g) : ∃ p, placeOf κ g s = some p ∧ p < (gQue κ g).length ∧ qAt κ g p = s := by
  cases e : placeOf κ g s with
  | none =>
    obtain ⟨j, hj, ej⟩ := List.getElem_of_mem h
    exact absurd (show qAt κ g j = s by rw [← ej]; exact gd_get hj) (find_no e j hj)
  | some p => exact ⟨p, rfl, ll_find_lt e, ll_find_P (P := fun j => qAt κ g j = s) e⟩
def leaveP (κ : ll_K) (s : Nat) : Nat := (placeOf κ ((sGate κ s).getD 0) s).getD 0
def k_leave (κ : ll_K) (s : Nat) : ll_K := k_deq κ ((sGate κ s).getD 0) (leaveP κ s)
theorem leave_eq {κ : ll_K} {s g p : Nat} (h1 : sGate κ s = some g) (h2 : placeOf κ g s = some p) (h3 : qAt κ g p = s) : k_leave κ s = k_lie (ll_sq κ g ((gQue κ g).eraseIdx p)) s ∧ leaveP κ s = p := by
  have e : leaveP κ s = p := by simp only [leaveP, h1, Option.getD_some, h2]
  refine ⟨?_, e⟩
  rw [k_leave, e, h1]
  show k_lie (ll_sq κ g _) (qAt κ g p) = _
  rw [h3]
  rfl
theorem I_leave {κ : ll_K} (hI : ll_I κ) {s : Nat} (hs : s < nS κ) (hr : sRest κ s = 1) : ll_I (k_leave κ s) := by
  obtain ⟨g, h1, h2, h3⟩ := (hI.2.2.1 s hs).2.2.2.1 hr
  obtain ⟨p, h4, h5, h6⟩ := place_mem h3
  have e := (leave_eq h1 h4 h6)
  rw [k_leave, e.2, h1]
  exact I_deq hI h2 h5
def c_leave (κ : ll_K) (s : Int32) : Nat := if inN s (nS κ) then (if sRest κ (tN s) = 1 then 0 else 2) else 1
def c_join (κ : ll_K) (s g d : Int32) : Nat := if inN s (nS κ) then (if inN g (nG κ) then (if ¬ d < 0 ∧ (d &&& ((headOf κ (tN s)) ^^^ (-1))) = 0 then (if sRest κ (tN s) = 0 ∧ (nI (gOne κ (tN g)) = nI (sLand κ (tN s)) ∨ nI (gOther κ (tN g)) = nI (sLand κ (tN s))) then 0 else 3) else 2) else 1) else 1
/-- the first of a queue yawns -/
def k_yawn0 (κ : ll_K) (g : Nat) : ll_K := ll_sz (k_deq κ g 0) 6 2 (yawns κ + 1)
abbrev yawnGood (κ : ll_K) (g : Nat) : Prop := goodNow (k_yawn0 κ g) (qAt κ g 0) g
def k_yawn (κ : ll_K) (g : Nat) : ll_K := k_wearA (if yawnGood κ g then k_cross (k_yawn0 κ g) (qAt κ g 0) g (sDecl κ (qAt κ g 0)) else k_yawn0 κ g) g
def yawnVal (κ : ll_K) (g : Nat) : Int32 := if yawnGood κ g then caughtN (k_yawn0 κ g) (qAt κ g 0) g (sDecl κ (qAt κ g 0)) else -1
def c_yawn (κ : ll_K) (g : Int32) : Nat := if inN g (nG κ) then (if openAt κ (tN g) (nI (nHour κ)) ∧ ¬ (gQue κ (tN g)).length = 0 then 0 else 2) else 1
theorem I_yawn0 {κ : ll_K} (hI : ll_I κ) {g : Nat} (hg : g < nG κ) (hq : ¬ (gQue κ g).length = 0) : ll_I (k_yawn0 κ g) := I_deq hI hg (by omega)
theorem yawn0_decl {κ : ll_K} (hI : ll_I κ) {g : Nat} (hg : g < nG κ) (hq : ¬ (gQue κ g).length = 0) : ¬ sRest (k_yawn0 κ g) (qAt κ g 0) = 1 ∧ ∀ p, p < nP κ → ll_has (sDecl κ (qAt κ g 0)) p → pHead (k_yawn0 κ g) p = some (qAt κ g 0) := by
  have h1 := (hI.2.1 g hg).2.2.2.2.1 _ (qAt_mem (show 0 < (gQue κ g).length by omega))
  have h2 := hI.2.2.1 _ h1.1
  have h24 := hI.1.2.2.1
  refine ⟨?_, fun p hp hd => ?_⟩
  · have : sRest (k_yawn0 κ g) (qAt κ g 0) = 0 := by
      show sRest (k_deq κ g 0) (qAt κ g 0) = 0
      rw [deq_rest, if_pos rfl]
    rw [this]; decide
  · have := (h2.2.2.2.2.2.2.2.2.2 h1.2.1 p (by omega) hd).2
    simp [pHead, k_yawn0, k_deq, k_lie, ll_sz, ll_so, ll_sn, ll_sq] at this ⊢
    exact this
theorem I_yawn1 {κ : ll_K} (hI : ll_I κ) {g : Nat} (hg : g < nG κ) (hq : ¬ (gQue κ g).length = 0) : ll_I (k_cross (k_yawn0 κ g) (qAt κ g 0) g (sDecl κ (qAt κ g 0))) := by
  have h1 := (hI.2.1 g hg).2.2.2.2.1 _ (qAt_mem (show 0 < (gQue κ g).length by omega))
  have h2 := yawn0_decl hI hg hq
  exact I_cross (I_yawn0 hI hg hq) h1.1 hg h2.1 h2.2
theorem cross_g {κ : ll_K} {s g : Nat} {D : Int32} : nG (k_cross κ s g D) = nG κ := by
  unfold k_cross
  split
  · split <;> rfl
  · rfl
theorem I_yawn {κ : ll_K} (hI : ll_I κ) {g : Nat} (hg : g < nG κ) (hq : ¬ (gQue κ g).length = 0) : ll_I (k_yawn κ g) := by
  unfold k_yawn
  split
  · exact I_wearA (I_yawn1 hI hg hq) (by rw [cross_g]; exact hg)
  · exact I_wearA (I_yawn0 hI hg hq) hg
theorem enter_end {κ : ll_K} {g s : Nat} (h : ∀ i, i < (gQue κ g).length → ¬ (sBaby κ s = true ∧ ¬ sBaby κ (qAt κ g i) = true)) : (gQue κ g).length = enterAt κ g s := by
  unfold enterAt; rw [ll_find_none h]; rfl
theorem enter_at {κ : ll_K} {g s p : Nat} (hp : p < (gQue κ g).length) (h : ∀ i, i < p → ¬ (sBaby κ s = true ∧ ¬ sBaby κ (qAt κ g i) = true)) (h1 : sBaby κ s = true) (h2 : ¬ sBaby κ (qAt κ g p) = true) : p = enterAt κ g s := by
  unfold enterAt; rw [ll_find_some (P := fun j => sBaby κ s = true ∧ ¬ sBaby κ (qAt κ g j) = true) hp ⟨h1, h2⟩ h]; rfl
