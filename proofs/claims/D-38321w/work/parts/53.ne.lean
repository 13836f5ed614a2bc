/-! ===== ne: queues of the model ===== -/
theorem enter_nonbaby {κ : ll_K} (hI : ll_I κ) {g s : Nat} (hg : g < nG κ) (hb : sBaby κ s = true) {i : Nat} (h1 : enterAt κ g s ≤ i) (hi : i < (gQue κ g).length) : ¬ sBaby κ (qAt κ g i) = true := by
  have key : ¬ sBaby κ (qAt κ g (enterAt κ g s)) = true := by
    unfold enterAt at h1 ⊢
    cases e : ll_find (fun j => sBaby κ s = true ∧ ¬ sBaby κ (qAt κ g j) = true) (gQue κ g).length with
    | none => rw [e] at h1; have : (gQue κ g).length ≤ i := h1; omega
    | some k => exact (ll_find_P (P := fun j => sBaby κ s = true ∧ ¬ sBaby κ (qAt κ g j) = true) e).2
  by_cases e : enterAt κ g s = i
  · rw [← e]; exact key
  · intro w
    refine key ?_
    have hp := (List.pairwise_iff_getElem.mp (qOk_of hI hg).2.2.2) (enterAt κ g s) i (by omega) hi (by omega)
    show sBaby κ ((gQue κ g).getD (enterAt κ g s) 12) = true
    rw [gd_get (by omega)]
    refine hp ?_
    have w2 : sBaby κ ((gQue κ g).getD i 12) = true := w
    rw [gd_get hi] at w2
    exact w2
theorem nI_dec2 {p : Nat} (h : 0 < p) (h2 : p < 2 ^ 31) : nI p + (-1) = nI (p - 1) := by
  obtain ⟨j, rfl⟩ : ∃ j, p = j + 1 := ⟨p - 1, by omega⟩
  exact nI_dec h2
theorem ins_fun (b : Nat → Nat) {l : List Nat} {p s : Nat} (hp : p ≤ l.length) : (fun j => if j < p then b (l.getD j 12) else if j = p then b s else b (l.getD (j - 1) 12)) = fun j => b ((l.insertIdx p s).getD j 12) := by
  funext j
  rw [ins_get hp]
  split
  · rfl
  · split <;> rfl
theorem join_eq {κ : ll_K} {s g : Nat} {D x : Int32} {l : List Nat} : ll_sz (ll_so (ll_sz (ll_sn (ll_sq κ g l) 3 s 1) 12 s x) 0 s (some g)) 12 s D = ll_sq (ll_sz (ll_so (ll_sn κ 3 s 1) 0 s (some g)) 12 s D) g l := by
  refine ll_Kext (fun _ _ => rfl) (fun a b => ?_) (fun _ _ => rfl) (fun _ _ => rfl) (fun _ => rfl) (fun _ => rfl) rfl (fun _ => rfl)
  simp only [ll_sz, ll_so, ll_sn, ll_sq]
  split <;> rfl
