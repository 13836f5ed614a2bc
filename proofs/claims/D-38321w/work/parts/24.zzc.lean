/-! ===== zzc: the invariant is kept ===== -/
theorem wearC_m {κ : ll_K} {g i i2 : Nat} (hI : ll_I κ) (hg : g < nG κ) (h : i2 < (gQue (k_wearC κ g i) g).length) : qAt (k_wearC κ g i) g i2 < nS κ := by
  have h1 : qAt (k_wearC κ g i) g i2 ∈ gQue (k_wearC κ g i) g := qAt_mem h
  rw [wearC_q, wq] at h1
  have h2 : qAt (k_wearC κ g i) g i2 ∈ gQue κ g := by
    rcases List.mem_append.mp h1 with w | w
    · exact List.mem_of_mem_take (List.mem_filter.mp w).1
    · exact List.mem_of_mem_drop w
  exact ((hI.2.1 g hg).2.2.2.2.1 _ h2).1
theorem I_draw {κ : ll_K} (hI : ll_I κ) : ll_I (k_draw κ) := hI
section SEA
variable {κ : ll_K} {s : Nat} {H : Int32} {to : Nat} {c : Prop} {k p : Nat}
theorem sea_head [Decidable c] : pHead (k_sea κ s H to c k) p = if p < k ∧ ll_has H p ∧ c then none else pHead κ p := by simp [pHead, k_sea]
theorem sea_store [Decidable c] : pStore (k_sea κ s H to c k) p = if p < k ∧ ll_has H p ∧ c then some to else pStore κ p := by simp [pStore, k_sea]
theorem sea_by [Decidable c] : pBy (k_sea κ s H to c k) p = if p < k ∧ ll_has H p then some s else pBy κ p := by simp [pBy, k_sea]
theorem sea_fate [Decidable c] : pFate (k_sea κ s H to c k) p = if p < k ∧ ll_has H p then (if c then 3 else 4) else pFate κ p := by simp [pFate, k_sea]
theorem hidP_ok (hI : ll_I κ) (hs : s < nS κ) : ∀ k, k ≤ nP κ → ∀ x ∈ hidP κ s H k, x.1 < nS κ ∧ x.2.1 < 8 ∧ x.2.2 ≤ 99
  | 0, _ => fun x hx => by
    obtain ⟨j, hj, e⟩ := List.getElem_of_mem (show x ∈ hids κ from hx)
    have h1 := hI.2.2.2.2.1 j hj
    have e2 : (hids κ).getD j (0, 0, 0) = x := by rw [List.getD_eq_getElem?_getD, List.getElem?_eq_getElem hj, e]; rfl
    simp only [hS, hD, hN, e2] at h1
    exact h1
  | k + 1, hk => fun x hx => by
    have ih := hidP_ok hI hs k (by omega)
    simp only [hidP] at hx
    split at hx
    · split at hx
      · rcases List.mem_append.mp hx with w | w
        · exact ih x w
        · rw [List.mem_singleton.mp w]
          exact ⟨hs, (hI.2.2.2.1 k (by omega)).2.2.2.2.1, hI.1.2.2.2.2.1⟩
      · exact ih x hx
    · exact ih x hx
theorem hid_get {l : List (Nat × Nat × Nat)} {j : Nat} (h : j < l.length) : l.getD j (0, 0, 0) ∈ l := by
  rw [List.getD_eq_getElem?_getD, List.getElem?_eq_getElem h]
  exact List.getElem_mem h
theorem I_sea [Decidable c] (hI : ll_I κ) (hs : s < nS κ) (hr : ¬ sRest κ s = 1) (ht : to < 6) (hH : ∀ p, p < nP κ → ll_has H p → pHead κ p = some s) (hk : k ≤ nP κ) : ll_I (k_sea κ s H to c k) := by
  refine ⟨⟨hI.1.1, hI.1.2.1, hI.1.2.2.1, hidP_le hI.1.2.2.2.1 k, hI.1.2.2.2.2⟩, hI.2.1, fun j hj => ?_, fun p hp => ?_, fun j hj => ?_, hI.2.2.2.2.2⟩
  · have h1 := hI.2.2.1 j hj
    refine ⟨h1.1, h1.2.1, h1.2.2.1, h1.2.2.2.1, h1.2.2.2.2.1, h1.2.2.2.2.2.1, fun hr2 p hp => ?_, h1.2.2.2.2.2.2.2.1, h1.2.2.2.2.2.2.2.2.1, fun hr1 p hp hd => ?_⟩
    · rw [sea_head]
      split
      · exact fun w => by cases w
      · exact h1.2.2.2.2.2.2.1 hr2 p hp
    · have h2 := h1.2.2.2.2.2.2.2.2.2 hr1 p hp hd
      refine ⟨h2.1, ?_⟩
      rw [sea_head, if_neg]
      · exact h2.2
      · intro w
        have h3 := hH p h2.1 w.2.1
        rw [h2.2] at h3
        injection h3 with h3
        subst h3
        exact hr hr1
  · have h1 := hI.2.2.2.1 p hp
    refine ⟨fun j hj => ?_, fun l hl => ?_, fun j hj => ?_, ?_, h1.2.2.2.2.1, h1.2.2.2.2.2.1, fun hf => ?_⟩
    · rw [sea_head] at hj
      split at hj
      · cases hj
      · exact h1.1 j hj
    · rw [sea_store] at hl
      rw [sea_head]
      split at hl
      · next e => injection hl with hl; subst hl; rw [if_pos e]; exact ⟨ht, rfl⟩
      · next e => rw [if_neg e]; exact h1.2.1 l hl
    · rw [sea_by] at hj
      split at hj
      · injection hj with hj; subst hj; exact hs
      · exact h1.2.2.1 j hj
    · rw [sea_fate]
      split
      · split <;> omega
      · exact h1.2.2.2.1
    · rw [sea_fate] at hf
      rw [sea_by]
      split at hf
      · next e => rw [if_pos e]; exact fun w => by cases w
      · next e => rw [if_neg e]; exact h1.2.2.2.2.2.2 hf
  · exact hidP_ok hI hs k hk _ (hid_get (l := hidP κ s H k) hj)
end SEA
theorem has_and {x y : Int32} {p : Nat} (hp : p < 32) (h : ll_has (x &&& y) p) : ll_has x p ∧ ll_has y p := by
  rw [ll_hasb hp, ll_btand, Bool.and_eq_true] at h
  exact ⟨(ll_hasb hp).mpr h.1, (ll_hasb hp).mpr h.2⟩
theorem has_not {y : Int32} {p : Nat} (hp : p < 32) : ll_has (y ^^^ (-1)) p ↔ ¬ ll_has y p := by
  rw [ll_hasb hp, ll_hasb hp]
  show (y ^^^ (-1)).toBitVec.getLsbD p = true ↔ ¬ y.toBitVec.getLsbD p = true
  rw [Int32.toBitVec_xor, BitVec.getLsbD_xor]
  have : (-1 : Int32).toBitVec.getLsbD p = true := by
    have e : (-1 : Int32).toBitVec = BitVec.allOnes 32 := by decide
    rw [e, BitVec.getLsbD_allOnes]; simp [hp]
  rw [this]
  cases y.toBitVec.getLsbD p <;> simp
theorem has_head {κ : ll_K} (hP : nP κ ≤ 24) {s p : Nat} (hp : p < nP κ) : ll_has (headOf κ s) p ↔ pHead κ p = some s := by
  rw [ll_hasb (by omega), headOf, ll_setb _ (by omega) (by omega)]
  simp [hp]
theorem hid_head {κ : ll_K} (hI : ll_I κ) {s p : Nat} {D : Int32} (hp : p < nP κ) : ll_has (hidH κ s D) p ↔ pHead κ p = some s ∧ ¬ ll_has D p := by
  have h24 := hI.1.2.2.1
  constructor
  · intro h
    have h2 := has_and (by omega) h
    exact ⟨(has_head h24 hp).mp h2.1, (has_not (by omega)).mp h2.2⟩
  · intro h
    rw [ll_hasb (by omega), hidH, ll_btand, Bool.and_eq_true]
    exact ⟨(ll_hasb (by omega)).mp ((has_head h24 hp).mpr h.1), (ll_hasb (by omega)).mp ((has_not (by omega)).mpr h.2)⟩
theorem I_seaH {κ : ll_K} {s to : Nat} {D : Int32} {c : Prop} [Decidable c] (hI : ll_I κ) (hs : s < nS κ) (hr : ¬ sRest κ s = 1) (ht : to < 6) : ll_I (k_sea κ s (hidH κ s D) to c (nP κ)) :=
  I_sea hI hs hr ht (fun _ hp h => ((hid_head hI hp).mp h).1) (Nat.le_refl _)
section DECL
variable {κ : ll_K} {l : Nat} {A D W : Int32} {to k p s : Nat}
theorem decl_head : pHead (k_decl κ l A D W to k) p = if p < k ∧ ¬ ll_has A p ∧ ll_has D p then none else pHead κ p := by simp [pHead, k_decl]
theorem decl_store : pStore (k_decl κ l A D W to k) p = if p < k ∧ ¬ ll_has A p ∧ ll_has D p then some l else pStore κ p := by simp [pStore, k_decl]
theorem decl_fate : pFate (k_decl κ l A D W to k) p = if p < k ∧ ll_has A p then (if ¬ lAll κ to < W then 2 else 1) else if p < k ∧ ll_has D p then 5 else pFate κ p := by simp [pFate, k_decl]
theorem I_decl (hI : ll_I κ) (hr : ¬ sRest κ s = 1) (hl : l < 6) (hD : ∀ p, p < nP κ → ll_has D p → pHead κ p = some s) : ll_I (k_decl κ l A D W to k) := by
  refine ⟨hI.1, hI.2.1, fun j hj => ?_, fun p hp => ?_, hI.2.2.2.2⟩
  · have h1 := hI.2.2.1 j hj
    refine ⟨h1.1, h1.2.1, h1.2.2.1, h1.2.2.2.1, h1.2.2.2.2.1, h1.2.2.2.2.2.1, fun hr2 p hp => ?_, h1.2.2.2.2.2.2.2.1, h1.2.2.2.2.2.2.2.2.1, fun hr1 p hp hd => ?_⟩
    · rw [decl_head]
      split
      · exact fun w => by cases w
      · exact h1.2.2.2.2.2.2.1 hr2 p hp
    · have h2 := h1.2.2.2.2.2.2.2.2.2 hr1 p hp hd
      refine ⟨h2.1, ?_⟩
      rw [decl_head, if_neg]
      · exact h2.2
      · intro w
        have h3 := hD p h2.1 w.2.2
        rw [h2.2] at h3
        injection h3 with h3
        subst h3
        exact hr hr1
  · have h1 := hI.2.2.2.1 p hp
    refine ⟨fun j hj => ?_, fun l2 hl2 => ?_, h1.2.2.1, ?_, h1.2.2.2.2.1, h1.2.2.2.2.2.1, fun hf => ?_⟩
    · rw [decl_head] at hj
      split at hj
      · cases hj
      · exact h1.1 j hj
    · rw [decl_store] at hl2
      rw [decl_head]
      split at hl2
      · next e => injection hl2 with hl2; subst hl2; rw [if_pos e]; exact ⟨hl, rfl⟩
      · next e => rw [if_neg e]; exact h1.2.1 l2 hl2
    · rw [decl_fate]
      split
      · split <;> omega
      · split
        · omega
        · exact h1.2.2.2.1
    · rw [decl_fate] at hf
      split at hf
      · split at hf <;> omega
      · split at hf
        · omega
        · exact h1.2.2.2.2.2.2 hf
end DECL
theorem I_declare {κ : ll_K} {s to : Nat} {D : Int32} (hI : ll_I κ) (hs : s < nS κ) (hr : ¬ sRest κ s = 1) (hD : ∀ p, p < nP κ → ll_has D p → pHead κ p = some s) : ll_I (k_declare κ s D to) :=
  I_decl hI hr (hI.2.2.1 s hs).1 hD
/-- another land, no pass: for one who doesn't stand -/
theorem I_land {κ : ll_K} {s to : Nat} (hI : ll_I κ) (hr : ¬ sRest κ s = 1) (ht : to < 6) : ll_I (ll_sp (ll_sn κ 2 s to) s none) := by
  have hl : ∀ j, j ≠ s → sLand (ll_sp (ll_sn κ 2 s to) s none) j = sLand κ j := fun j e => by simp [sLand, ll_sp, ll_sn, e]
  refine ⟨hI.1, fun g hg => ?_, fun j hj => ?_, hI.2.2.2⟩
  · have h1 := hI.2.1 g hg
    refine ⟨h1.1, h1.2.1, h1.2.2.1, h1.2.2.2.1, fun j hj => ?_, h1.2.2.2.2.2⟩
    have h2 := h1.2.2.2.2.1 j hj
    have hne : j ≠ s := fun e => hr (by rw [← e]; exact h2.2.1)
    rw [hl j hne]
    exact h2
  · have h1 := hI.2.2.1 j hj
    refine ⟨?_, h1.2.1, h1.2.2.1, h1.2.2.2.1, h1.2.2.2.2.1, h1.2.2.2.2.2.1, h1.2.2.2.2.2.2.1, h1.2.2.2.2.2.2.2.1, fun q hq => ?_, h1.2.2.2.2.2.2.2.2.2⟩
    · by_cases e : j = s
      · have : sLand (ll_sp (ll_sn κ 2 s to) s none) j = to := by simp [sLand, ll_sp, ll_sn, e]
        rw [this]; exact ht
      · rw [hl j e]; exact h1.1
    · by_cases e : j = s
      · have : sPass (ll_sp (ll_sn κ 2 s to) s none) j = none := by simp [sPass, ll_sp, e]
        rw [this] at hq; cases hq
      · have : sPass (ll_sp (ll_sn κ 2 s to) s none) j = sPass κ j := by simp [sPass, ll_sp, ll_sn, e]
        rw [this] at hq; exact h1.2.2.2.2.2.2.2.2.1 q hq
theorem I_cross1 {κ : ll_K} {s to : Nat} {D : Int32} {c : Prop} [Decidable c] (hI : ll_I κ) (hs : s < nS κ) (hr : ¬ sRest κ s = 1) (ht : to < 6) (hD : ∀ p, p < nP κ → ll_has D p → pHead κ p = some s) : ll_I (k_cross1 κ s D (hidH κ s D) to c) := by
  have h1 : ll_I (k_sea κ s (hidH κ s D) to c (nP κ)) := I_seaH hI hs hr ht
  refine I_land (I_declare h1 hs hr (fun p hp hd => ?_)) hr ht
  rw [sea_head, if_neg]
  · exact hD p hp hd
  · exact fun w => ((hid_head hI hp).mp w.2.1).2 hd
theorem I_cross {κ : ll_K} {s g : Nat} {D : Int32} (hI : ll_I κ) (hs : s < nS κ) (hg : g < nG κ) (hr : ¬ sRest κ s = 1) (hD : ∀ p, p < nP κ → ll_has D p → pHead κ p = some s) : ll_I (k_cross κ s g D) := by
  have hto : acrossN κ g (sLand κ s) < 6 := by
    have := hI.2.1 g hg
    unfold acrossN; split <;> omega
  unfold k_cross
  split
  · split
    · exact I_cross1 (I_draw hI) hs hr hto hD
    · exact I_cross1 (I_draw hI) hs hr hto hD
  · exact I_cross1 hI hs hr hto hD
