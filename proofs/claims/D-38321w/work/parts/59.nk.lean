/-! ===== nk: the model's yawn, pure ===== -/
theorem at_headW {κ : ll_K} {p s : Nat} (hs : s < 100) : pAt κ p = s ↔ pHead κ p = some s := by
  show atN (pHead κ p) (pStore κ p) = s ↔ _
  cases pHead κ p with
  | some j => exact ⟨fun e => congrArg some e, fun e => by injection e⟩
  | none =>
    cases pStore κ p with
    | some l => exact ⟨fun e => by have e2 : 100 + l = s := e; omega, fun e => by cases e⟩
    | none => exact ⟨fun e => by have e2 : 999 = s := e; omega, fun e => by cases e⟩
/-- hide, as the model does it -/
def k_hidM (κ : ll_K) (s d : Nat) : ll_K := ll_sh κ (if (hids κ).length < 40 then hids κ ++ [(s, d, nNight κ)] else hids κ)
theorem va_bx {G : jd_G} {f : Nat → Nat} {n x : Nat} : va_up (fun j => jd_bx G (f j)) n (jd_bx G x) = fun j => jd_bx G (va_up f n x j) := by
  funext j
  show (if j = n then _ else _) = jd_bx G (if j = n then _ else _)
  split <;> rfl
theorem va_bd {f : Nat → Nat} {n x b : Nat} (h : ∀ j, j < n → f j < b) (hx : x < b) : ∀ j, j < n + 1 → va_up f n x j < b := fun j hj => by
  show (if j = n then _ else _) < b
  split
  · exact hx
  · exact h j (by omega)
theorem gd_app {l : List (Nat × Nat × Nat)} {x : Nat × Nat × Nat} {j : Nat} : (l ++ [x]).getD j (0, 0, 0) = if j = l.length then x else l.getD j (0, 0, 0) := by
  rw [List.getD_eq_getElem?_getD, List.getD_eq_getElem?_getD]
  split
  · next e => subst e; rw [List.getElem?_append_right (Nat.le_refl _), Nat.sub_self]; rfl
  · next e =>
    by_cases h : j < l.length
    · rw [List.getElem?_append_left h]
    · rw [List.getElem?_append_right (by omega), List.getElem?_eq_none (by simp; omega), List.getElem?_eq_none (by omega)]
theorem hidN_app {κ : ll_K} {s d n : Nat} : hidN (ll_sh κ (hids κ ++ [(s, d, n)])) = va_up (va_up (va_up (hidN κ) (3 * (hids κ).length) s) (3 * (hids κ).length + 1) d) (3 * (hids κ).length + 1 + 1) n := by
  funext j
  show (if j % 3 = 0 then ((hids κ ++ [(s, d, n)]).getD (j / 3) (0, 0, 0)).1 else if j % 3 = 1 then ((hids κ ++ [(s, d, n)]).getD (j / 3) (0, 0, 0)).2.1 else ((hids κ ++ [(s, d, n)]).getD (j / 3) (0, 0, 0)).2.2) = if j = _ then n else if j = _ then d else if j = _ then s else hidN κ j
  rw [gd_app]
  unfold hidN
  by_cases e : j / 3 = (hids κ).length
  · rw [if_pos e]
    by_cases e0 : j % 3 = 0
    · rw [if_pos e0, if_neg (by omega), if_neg (by omega), if_pos (by omega)]
    · by_cases e1 : j % 3 = 1
      · rw [if_neg e0, if_pos e1, if_neg (by omega), if_pos (by omega)]
      · rw [if_neg e0, if_neg e1, if_pos (by omega)]
  · rw [if_neg e, if_neg (show ¬ j = 3 * (hids κ).length + 1 + 1 by omega), if_neg (show ¬ j = 3 * (hids κ).length + 1 by omega), if_neg (show ¬ j = 3 * (hids κ).length by omega)]
theorem m_hid {G : jd_G} {γ : ll_B} {κ : ll_K} {μ : ll_U} {h h' : jd_H} (hw : WM G γ κ μ h) {s d n : Nat} {mc : Int32} (hs : h' (22, 4) = some (γ 0 5, .inr (mc, 3 * (hids κ).length + 1 + 1 + 1, fun j => jd_bx G (va_up (va_up (va_up (hidN κ) (3 * (hids κ).length) s) (3 * (hids κ).length + 1) d) (3 * (hids κ).length + 1 + 1) n j)))) (ho : ∀ j : jd_Id, j ≠ (22, 4) → h' j = h j) : WM G γ (ll_sh κ (hids κ ++ [(s, d, n)])) μ h' := by
  have f_mthis := w_mthis hw
  have f_mland := w_mland hw
  have f_mgate := w_mgate hw
  have f_msleeper := w_msleeper hw
  have f_mpart := w_mpart hw
  have f_mlands := w_mlands hw
  have f_mmore := w_mmore hw
  have f_mgates := w_mgates hw
  have f_msleepers := w_msleepers hw
  have f_mparts := w_mparts hw
  have f_mhidings := w_mhidings hw
  have f_mqueue := w_mqueue hw
  have f_mrev := w_mrev hw
  have f_mdecl := w_mdecl hw
  have f_mpass := w_mpass hw
  have f_mfree := w_mfree hw
  have hx : ∀ {f j : Nat}, f ≠ 22 → h' (f, j) = h (f, j) := fun {f j} a => ho _ (fun z => a (by injection z))
  have hx2 : ∀ {j : Nat}, j ≠ 4 → h' (22, j) = h (22, j) := fun {j} a => ho _ (fun z => a (by injection z))
  refine ⟨(hx (by decide)).trans (f_mthis), fun j hj => (hx (by decide)).trans (f_mland j hj), fun j hj => (hx (by decide)).trans (f_mgate j hj), fun j hj => (hx (by decide)).trans (f_msleeper j hj), fun j hj => (hx (by decide)).trans (f_mpart j hj), (hx (by decide)).trans (f_mlands), (hx (by decide)).trans (f_mmore), ?_, ?_, ?_, ?_, fun j hj => ?_, fun j hj => (hx (by decide)).trans (f_mrev j hj), f_mdecl, f_mpass, fun j => ?_⟩
  · obtain ⟨m, hm⟩ := f_mgates; exact ⟨m, (hx2 (by decide)).trans hm⟩
  · obtain ⟨m, hm⟩ := f_msleepers; exact ⟨m, (hx2 (by decide)).trans hm⟩
  · obtain ⟨m, hm⟩ := f_mparts; exact ⟨m, (hx2 (by decide)).trans hm⟩
  · refine ⟨mc, hs.trans ?_⟩
    rw [hidN_app]
    have : 3 * (hids (ll_sh κ (hids κ ++ [(s, d, n)]))).length = 3 * (hids κ).length + 1 + 1 + 1 := by
      show 3 * (hids κ ++ [(s, d, n)]).length = _
      rw [List.length_append]; simp only [List.length_singleton]; omega
    rw [this]
  · obtain ⟨m, hm⟩ := f_mqueue j hj; exact ⟨m, (hx (by decide)).trans hm⟩
  · obtain ⟨f1, f2, f3⟩ := f_mfree j
    exact ⟨fun w => ⟨(hx (by decide)).trans (f1 w).1, (hx (by decide)).trans (f1 w).2.1, (hx (by decide)).trans (f1 w).2.2⟩, fun w => (hx (by decide)).trans (f2 w), fun w => (hx (by decide)).trans (f3 w)⟩
theorem hid_bd {κ : ll_K} (h : ∀ x ∈ hids κ, x.1 < 128 ∧ x.2.1 < 128 ∧ x.2.2 < 128) : ∀ j, hidN κ j < 128 := fun j => by
  have key : ((hids κ).getD (j / 3) (0, 0, 0)).1 < 128 ∧ ((hids κ).getD (j / 3) (0, 0, 0)).2.1 < 128 ∧ ((hids κ).getD (j / 3) (0, 0, 0)).2.2 < 128 := by
    by_cases e : j / 3 < (hids κ).length
    · exact h _ (hid_get e)
    · rw [List.getD_eq_getElem?_getD, List.getElem?_eq_none (by omega)]; exact ⟨by decide, by decide, by decide⟩
  unfold hidN
  split
  · exact key.1
  · split
    · exact key.2.1
    · exact key.2.2
/-! the search -/
theorem sea_at {κ : ll_K} {s : Nat} {H : Int32} {to : Nat} {c : Prop} [Decidable c] {k : Nat} : pAt (k_sea κ s H to c k) k = pAt κ k := by
  simp [pAt, pHead, pStore, k_sea]
theorem seaM_slip {κ : ll_K} {s : Nat} {H : Int32} {to : Nat} {c : Prop} [Decidable c] {k : Nat} (h : ll_has H k) (hc : ¬ c) : ll_so (ll_sn (k_hidM (k_sea κ s H to c k) s (pDream κ k)) 4 k 4) 3 k (some s) = k_sea κ s H to c (k + 1) := by
  rw [← sea_slip h hc]
  have e : pDream (k_sea κ s H to c k) k = pDream κ k := by simp [pDream, k_sea]
  rw [← e]
  rfl
theorem seaM_caught {κ : ll_K} {s : Nat} {H : Int32} {to : Nat} {c : Prop} [Decidable c] {k : Nat} {w : Int32} (h : ll_has H k) (hc : c) (hw : w = pWorth κ k) {f : Int32} (hf : f = lFin (k_sea κ s H to c k) to) : ll_sz (ll_so (ll_so (ll_so (ll_sn (k_hidM (k_sea κ s H to c k) s (pDream κ k)) 4 k 3) 3 k (some s)) 1 k none) 2 k (some to)) 5 to (f + w) = k_sea κ s H to c (k + 1) := by
  rw [← sea_caught h hc, hw, hf]
  have e : pDream (k_sea κ s H to c k) k = pDream κ k := by simp [pDream, k_sea]
  rw [← e]
  rfl
theorem k_cross1_y {κ : ll_K} {s to : Nat} {D H : Int32} {c : Prop} [Decidable c] (h : c) : k_cross1 κ s D H to c = k_cross1 κ s D H to True := by
  have e : c = True := propext ⟨fun _ => trivial, fun _ => h⟩
  subst e
  congr
theorem k_cross1_n {κ : ll_K} {s to : Nat} {D H : Int32} {c : Prop} [Decidable c] (h : ¬ c) : k_cross1 κ s D H to c = k_cross1 κ s D H to False := by
  have e : c = False := propext ⟨fun w => h w, fun w => w.elim⟩
  subst e
  congr
/-! what is declared -/
/-- like k_decl, but the land's nightmares are not counted yet and nothing is exempt yet -/
def k_cin (κ : ll_K) (l : Nat) (A D : Int32) (k : Nat) : ll_K :=
  (fun a b => if a = 4 ∧ b < k ∧ ll_has A b then 1 else if a = 4 ∧ b < k ∧ ll_has D b then 5 else κ.1 a b, κ.2.1,
   fun a b => if a = 1 ∧ b < k ∧ ¬ ll_has A b ∧ ll_has D b then none else if a = 2 ∧ b < k ∧ ¬ ll_has A b ∧ ll_has D b then some l else κ.2.2.1 a b,
   κ.2.2.2)
section CIN
variable {κ : ll_K} {l : Nat} {A D : Int32} {k : Nat}
theorem cin0 : k_cin κ l A D 0 = κ := by
  refine ll_Kext (fun a b => ?_) (fun a b => rfl) (fun a b => ?_) (fun _ _ => rfl) (fun _ => rfl) (fun _ => rfl) rfl (fun _ => rfl)
  · simp [k_cin]
  · simp [k_cin]
theorem cin_at : pAt (k_cin κ l A D k) k = pAt κ k := by simp [pAt, pHead, pStore, k_cin]
theorem cin_no (hA : ¬ ll_has A k) (hD : ¬ ll_has D k) : k_cin κ l A D k = k_cin κ l A D (k + 1) := by
  refine ll_Kext (fun a b => ?_) (fun a b => rfl) (fun a b => ?_) (fun _ _ => rfl) (fun _ => rfl) (fun _ => rfl) rfl (fun _ => rfl)
  · by_cases e : b = k
    · subst e; simp [k_cin, hA, hD]
    · simp only [k_cin, ll_lts e]
  · by_cases e : b = k
    · subst e; simp [k_cin, hD]
    · simp only [k_cin, ll_lts e]
theorem cin_in (hA : ll_has A k) : ll_sn (k_cin κ l A D k) 4 k 1 = k_cin κ l A D (k + 1) := by
  refine ll_Kext (fun a b => ?_) (fun a b => rfl) (fun a b => ?_) (fun _ _ => rfl) (fun _ => rfl) (fun _ => rfl) rfl (fun _ => rfl)
  · by_cases e : b = k
    · subst e; by_cases ea : a = 4
      · simp [k_cin, ll_sn, hA, ea]
      · simp [k_cin, ll_sn, ea]
    · simp only [k_cin, ll_sn, ll_lts e, e, and_false, if_false]
  · by_cases e : b = k
    · subst e; simp [k_cin, ll_sn, hA]
    · simp only [k_cin, ll_sn, ll_lts e]
theorem cin_out (hA : ¬ ll_has A k) (hD : ll_has D k) : ll_sn (ll_so (ll_so (k_cin κ l A D k) 1 k none) 2 k (some l)) 4 k 5 = k_cin κ l A D (k + 1) := by
  refine ll_Kext (fun a b => ?_) (fun a b => rfl) (fun a b => ?_) (fun _ _ => rfl) (fun _ => rfl) (fun _ => rfl) rfl (fun _ => rfl)
  · by_cases e : b = k
    · subst e; by_cases ea : a = 4
      · simp [k_cin, ll_sn, ll_so, hA, hD, ea]
      · simp [k_cin, ll_sn, ll_so, ea]
    · simp only [k_cin, ll_sn, ll_so, ll_lts e, e, and_false, if_false]
  · by_cases e : b = k
    · subst e
      by_cases e1 : a = 1
      · simp [k_cin, ll_sn, ll_so, hA, hD, e1]
      · by_cases e2 : a = 2
        · simp [k_cin, ll_sn, ll_so, hA, hD, e2]
        · simp [k_cin, ll_sn, ll_so, e1, e2]
    · simp only [k_cin, ll_sn, ll_so, ll_lts e, e, and_false, if_false]
end CIN
theorem al_cnt {κ : ll_K} {D : Int32} {to : Nat} (hP : nP κ ≤ 24) : ∀ n, n ≤ nP κ → (ll_al κ D (lQuo κ to) (lNight κ to) n).1 = lNight κ to + ll_cnt (fun p => ll_has (allowed κ D to) p ∧ ¬ pDread κ p < 5) n
  | 0, _ => by show lNight κ to = lNight κ to + 0; rw [Int32.add_zero]
  | n + 1, h => by
    show (ll_al κ D (lQuo κ to) (lNight κ to) n).1 + jd_b _ = lNight κ to + (ll_cnt _ n + jd_b _)
    rw [al_cnt hP n (by omega), Int32.add_assoc]
    refine congrArg _ (congrArg _ (jd_bcong ?_))
    show _ ↔ ll_has (allowed κ D to) n ∧ ¬ pDread κ n < 5
    rw [al_has hP (show n < nP κ by omega), ← al_cnt hP n (by omega)]
    exact ⟨fun w => ⟨w.2, w.1.2⟩, fun w => ⟨⟨w.1.1, w.2⟩, w.1⟩⟩
theorem cin_end {κ : ll_K} {l to : Nat} {D : Int32} (hP : nP κ ≤ 24) (hA : lAll κ to < 100) : ll_sz (k_cin κ l (allowed κ D to) D (nP κ)) 3 to (ll_al κ D (lQuo κ to) (lNight κ to) (nP κ)).1 = k_decl κ l (allowed κ D to) D 100 to (nP κ) := by
  refine ll_Kext (fun a b => ?_) (fun a b => ?_) (fun a b => rfl) (fun _ _ => rfl) (fun _ => rfl) (fun _ => rfl) rfl (fun _ => rfl)
  · show (if _ then _ else _) = (if _ then (if ¬ lAll κ to < 100 then 2 else 1) else _)
    rw [if_neg (not_not_intro hA)]
  · show (if a = 3 ∧ b = to then _ else κ.2.1 a b) = (if a = 3 ∧ b = to then _ else κ.2.1 a b)
    rw [al_cnt hP _ (Nat.le_refl _)]
/-- those of A are exempt, of the first k -/
def k_fat (κ : ll_K) (A : Int32) (c : Prop) [Decidable c] (k : Nat) : ll_K := (fun a b => if a = 4 ∧ b < k ∧ ll_has A b ∧ c then 2 else κ.1 a b, κ.2)
section FAT
variable {κ : ll_K} {A : Int32} {c : Prop} {k : Nat}
theorem fat0 [Decidable c] : k_fat κ A c 0 = κ := by
  refine ll_Kext (fun a b => ?_) (fun a b => rfl) (fun a b => rfl) (fun _ _ => rfl) (fun _ => rfl) (fun _ => rfl) rfl (fun _ => rfl)
  simp [k_fat]
theorem fat_y [Decidable c] (hA : ll_has A k) (hc : c) : ll_sn (k_fat κ A c k) 4 k 2 = k_fat κ A c (k + 1) := by
  refine ll_Kext (fun a b => ?_) (fun a b => rfl) (fun a b => rfl) (fun _ _ => rfl) (fun _ => rfl) (fun _ => rfl) rfl (fun _ => rfl)
  by_cases e : b = k
  · subst e; by_cases ea : a = 4
    · simp [k_fat, ll_sn, hA, hc, ea]
    · simp [k_fat, ll_sn, ea]
  · simp only [k_fat, ll_sn, ll_lts e, e, and_false, if_false]
theorem fat_n [Decidable c] (h : ¬ (ll_has A k ∧ c)) : k_fat κ A c k = k_fat κ A c (k + 1) := by
  refine ll_Kext (fun a b => ?_) (fun a b => rfl) (fun a b => rfl) (fun _ _ => rfl) (fun _ => rfl) (fun _ => rfl) rfl (fun _ => rfl)
  by_cases e : b = k
  · subst e; simp only [k_fat, Nat.lt_irrefl, false_and, and_false, if_false]
    rw [if_neg (fun w => h w.2.2)]
  · simp only [k_fat, ll_lts e]
end FAT
theorem fat_end {κ : ll_K} {l to : Nat} {A D W X : Int32} (hA : lAll κ to < 100) : k_fat (ll_sz (k_decl κ l A D 100 to (nP κ)) 4 to X) A (¬ lAll κ to < W) (nP κ) = ll_sz (k_decl κ l A D W to (nP κ)) 4 to X := by
  refine ll_Kext (fun a b => ?_) (fun a b => rfl) (fun a b => rfl) (fun _ _ => rfl) (fun _ => rfl) (fun _ => rfl) rfl (fun _ => rfl)
  simp only [k_fat, k_decl, ll_sz]
  by_cases e : a = 4 ∧ b < nP κ ∧ ll_has A b
  · rw [if_pos e, if_pos e, if_neg (not_not_intro hA)]
    by_cases w : lAll κ to < W
    · rw [if_neg (fun z => z.2.2.2 w), if_neg (not_not_intro w)]
    · rw [if_pos ⟨e.1, e.2.1, e.2.2, w⟩, if_pos w]
  · rw [if_neg e, if_neg e, if_neg (fun w => e ⟨w.1, w.2.1, w.2.2.1⟩)]
/-! those who wear, from the end -/
theorem lie_wake {κ : ll_K} {s : Nat} : ll_sn (k_lie κ s) 3 s 2 = ll_so (ll_sz (ll_sn κ 3 s 2) 12 s 0) 0 s none := by
  refine ll_Kext (fun a b => ?_) (fun a b => rfl) (fun a b => rfl) (fun _ _ => rfl) (fun _ => rfl) (fun _ => rfl) rfl (fun _ => rfl)
  simp only [k_lie, ll_sn, ll_so, ll_sz]
  split <;> rfl
def k_wearB (κ : ll_K) (g i : Nat) : ll_K := k_wear κ g (fun b => decide (b ∈ (gQue κ g).drop i)) ((gQue κ g).take i ++ ((gQue κ g).drop i).filter (wkP κ))
theorem wearBn {κ : ll_K} {g : Nat} : k_wearB κ g (gQue κ g).length = κ := by
  have : (gQue κ g).take (gQue κ g).length ++ ((gQue κ g).drop (gQue κ g).length).filter (wkP κ) = gQue κ g := by
    rw [List.take_length, List.drop_length, List.filter_nil, List.append_nil]
  rw [k_wearB, this]
  exact wear0 (fun b => by rw [List.drop_length]; simp)
theorem wearB0 {κ : ll_K} {g : Nat} : k_wearB κ g 0 = k_wearA κ g := by
  rw [k_wearB, k_wearA, List.take_zero, List.drop_zero, List.nil_append]
section WB
variable {κ : ll_K} {g i : Nat}
theorem dr_mem {l : List Nat} (hi : i < l.length) (b : Nat) : decide (b ∈ l.drop i) = (decide (b ∈ l.drop (i + 1)) || decide (b = l.getD i 12)) := by
  rw [drop_s hi]; simp [Bool.or_comm]
theorem dr_nd {l : List Nat} (hnd : l.Nodup) (hi : i < l.length) : decide (l.getD i 12 ∈ l.drop (i + 1)) = false := by
  rw [decide_eq_false_iff_not]
  intro hm
  rw [← List.take_append_drop i l, drop_s hi] at hnd
  have := (List.nodup_append.mp hnd).2.1
  exact (List.nodup_cons.mp this).1 hm
theorem wearB_q : gQue (k_wearB κ g i) g = (gQue κ g).take i ++ ((gQue κ g).drop i).filter (wkP κ) := if_pos rfl
theorem wearB_len (hi : i < (gQue κ g).length) : i < (gQue (k_wearB κ g (i + 1)) g).length ∧ (gQue (k_wearB κ g (i + 1)) g).length ≤ (gQue κ g).length := by
  have h1 := List.length_filter_le (wkP κ) ((gQue κ g).drop (i + 1))
  rw [wearB_q, List.length_append, List.length_take]
  rw [List.length_drop] at h1
  omega
theorem wearB_at {j : Nat} (hi : i < (gQue κ g).length) (hj : j ≤ i) : qAt (k_wearB κ g (i + 1)) g j = qAt κ g j := by
  show (gQue (k_wearB κ g (i + 1)) g).getD j 12 = _
  rw [wearB_q, List.getD_eq_getElem?_getD, List.getElem?_append_left (by rw [List.length_take]; omega), List.getElem?_take, if_pos (by omega)]
  exact (List.getD_eq_getElem?_getD ..).symm
theorem wearB_m {x : Nat} (h : x ∈ gQue (k_wearB κ g i) g) : x ∈ gQue κ g := by
  rw [wearB_q] at h
  rcases List.mem_append.mp h with w | w
  · exact List.mem_of_mem_take w
  · exact List.mem_of_mem_drop (List.mem_filter.mp w).1
theorem wearB_pat (hnd : (gQue κ g).Nodup) (hi : i < (gQue κ g).length) : sPat (k_wearB κ g (i + 1)) (qAt κ g i) = sPat κ (qAt κ g i) := by
  have h := dr_nd hnd hi
  simp only [k_wearB, k_wear, sPat]
  rw [if_neg (fun w => by rw [h] at w; exact absurd w.2.1 (by decide)), if_neg (fun w => by rw [h] at w; exact absurd w.2 (by decide))]
theorem wearB_gate (hnd : (gQue κ g).Nodup) (hi : i < (gQue κ g).length) : sGate (k_wearB κ g (i + 1)) (qAt κ g i) = sGate κ (qAt κ g i) := by
  have h := dr_nd hnd hi
  simp only [k_wearB, k_wear, sGate]
  rw [if_neg (fun w => by rw [h] at w; exact absurd w.2.1 (by decide)), if_neg (fun w => absurd w.1 (by decide))]
theorem wearB_z (hnd : (gQue κ g).Nodup) (hi : i < (gQue κ g).length) : sPat (ll_sz (k_wearB κ g (i + 1)) 11 (qAt κ g i) (sPat (k_wearB κ g (i + 1)) (qAt κ g i) - 1)) (qAt κ g i) = 0 ↔ sPat κ (qAt κ g i) = 1 := by
  have e : sPat (ll_sz (k_wearB κ g (i + 1)) 11 (qAt κ g i) (sPat (k_wearB κ g (i + 1)) (qAt κ g i) - 1)) (qAt κ g i) = sPat (k_wearB κ g (i + 1)) (qAt κ g i) - 1 := if_pos ⟨rfl, rfl⟩
  rw [e, wearB_pat hnd hi]
  exact sub1_0
theorem wearB_y (hnd : (gQue κ g).Nodup) (hi : i < (gQue κ g).length) (h1 : ¬ sPat κ (qAt κ g i) = 1) : ll_sz (k_wearB κ g (i + 1)) 11 (qAt κ g i) (sPat (k_wearB κ g (i + 1)) (qAt κ g i) - 1) = k_wearB κ g i := by
  refine wear_y (dr_mem hi) (dr_nd hnd hi) h1 ?_
  rw [take_s hi, drop_s hi, List.filter_cons_of_pos (show wkP κ ((gQue κ g).getD i 12) = true from decide_eq_true h1), List.append_assoc]; rfl
theorem wearB_d (hnd : (gQue κ g).Nodup) (hi : i < (gQue κ g).length) (h1 : sPat κ (qAt κ g i) = 1) : k_wake (ll_sq (ll_sz (k_wearB κ g (i + 1)) 11 (qAt κ g i) (sPat (k_wearB κ g (i + 1)) (qAt κ g i) - 1)) g ((gQue (k_wearB κ g (i + 1)) g).eraseIdx i)) (qAt κ g i) = k_wearB κ g i := by
  have hl : ((gQue κ g).take i).length = i := by rw [List.length_take]; omega
  have e : (gQue (k_wearB κ g (i + 1)) g).eraseIdx i = (gQue κ g).take i ++ ((gQue κ g).drop i).filter (wkP κ) := by
    rw [wearB_q, take_s hi, drop_s hi, List.filter_cons_of_neg (by simp; exact h1), List.append_assoc, List.eraseIdx_append_of_length_le (by omega), hl, Nat.sub_self]
    rfl
  rw [e]
  exact wear_d (dr_mem hi) (dr_nd hnd hi) h1
theorem wearB_hd {p j : Nat} (h : pHead (k_wearB κ g i) p = some j) : pHead κ p = some j := by
  simp only [k_wearB, k_wear, pHead] at h ⊢
  split at h
  · cases h
  · split at h
    · cases h
    · exact h
theorem wearB_st {p : Nat} : pStore (k_wearB κ g i) p = pStore κ p := by simp [pStore, k_wearB, k_wear]
theorem wearB_place (hnd : (gQue κ g).Nodup) (hi : i < (gQue κ g).length) {κ' : ll_K} (hq : gQue κ' g = gQue (k_wearB κ g (i + 1)) g) : placeOf κ' g (qAt κ g i) = some i := by
  have hq2 : ∀ j, qAt κ' g j = qAt (k_wearB κ g (i + 1)) g j := fun j => by show (gQue κ' g).getD j 12 = _; rw [hq]
  unfold placeOf
  refine ll_find_some (P := fun j => qAt κ' g j = qAt κ g i) (by rw [hq]; exact (wearB_len hi).1) (by rw [hq2, wearB_at hi (Nat.le_refl _)]) (fun j hj => ?_)
  rw [hq2, wearB_at hi (by omega)]
  intro e
  have e1 : (gQue κ g)[j]'(by omega) = (gQue κ g)[i] := by rw [← gd_get (by omega), ← gd_get hi]; exact e
  have := (List.getElem_inj hnd).mp e1
  omega
end WB
theorem va_bA {f : Nat → Nat} {n x b : Nat} (h : ∀ j, f j < b) (hx : x < b) : ∀ j, va_up f n x j < b := fun j => by
  show (if j = n then _ else _) < b
  split
  · exact hx
  · exact h j
theorem so_id {κ : ll_K} {f k : Nat} : ll_so κ f k (κ.2.2.1 f k) = κ := by
  refine ll_Kext (fun _ _ => rfl) (fun _ _ => rfl) (fun a b => ?_) (fun _ _ => rfl) (fun _ => rfl) (fun _ => rfl) rfl (fun _ => rfl)
  simp only [ll_so]
  split
  · next e => rw [e.1, e.2]
  · rfl
theorem wk_no {κ : ll_K} {s k : Nat} (h : ¬ pHead (k_wk κ s k) k = some s) : k_wk κ s k = k_wk κ s (k + 1) := by
  rw [← wk_n h]; exact so_id.symm
theorem wkS {κ : ll_K} {g s k p : Nat} {q : List Nat} : pStore (k_wk (ll_sn (k_lie (ll_sq κ g q) s) 3 s 2) s k) p = pStore κ p := by simp [pStore, k_wk, k_lie, ll_sn, ll_so, ll_sz, ll_sq]
theorem wkH {κ : ll_K} {g s k p t : Nat} {q : List Nat} (h : pHead (k_wk (ll_sn (k_lie (ll_sq κ g q) s) 3 s 2) s k) p = some t) : pHead κ p = some t := by
  simp [pHead, k_wk, k_lie, ll_sn, ll_so, ll_sz, ll_sq] at h ⊢
  exact h.2
theorem at_bdW {κ : ll_K} {p : Nat} (h1 : ∀ t, pHead κ p = some t → t < 128) (h2 : ∀ l, pStore κ p = some l → l < 6) : pAt κ p ≤ 999 := by
  show atN (pHead κ p) (pStore κ p) ≤ 999
  cases e : pHead κ p with
  | some j => have := h1 j e; show j ≤ 999; omega
  | none =>
    cases e2 : pStore κ p with
    | some l => have := h2 l e2; show 100 + l ≤ 999; omega
    | none => exact Nat.le_refl _
theorem al_back {κ : ll_K} {D : Int32} {l k : Nat} (hP : nP κ ≤ 24) (hk : k < nP κ) (_h : ll_has D k) (hb : ¬ pDread κ k < 5 ∧ ¬ (ll_al κ D (lQuo κ l) (lNight κ l) k).1 < lQuo κ l) : ¬ ll_has (allowed κ D l) k := by
  rw [al_has hP hk]
  intro w
  rcases w.2 with a | a
  · exact a ⟨w.1, hb.1⟩
  · exact a (Int32.not_lt.mp hb.2)
theorem al_come {κ : ll_K} {D : Int32} {l k : Nat} (hP : nP κ ≤ 24) (hk : k < nP κ) (h : ll_has D k) (hb : ¬ (¬ pDread κ k < 5 ∧ ¬ (ll_al κ D (lQuo κ l) (lNight κ l) k).1 < lQuo κ l)) : ll_has (allowed κ D l) k := by
  rw [al_has hP hk]
  refine ⟨h, ?_⟩
  by_cases e : pDread κ k < 5
  · exact Or.inl (fun w => w.2 e)
  · exact Or.inr (fun w => hb ⟨e, Int32.not_lt.mpr w⟩)
theorem al_sub {κ : ll_K} {D : Int32} {l k : Nat} (hP : nP κ ≤ 24) (hk : k < nP κ) (h : ¬ ll_has D k) : ¬ ll_has (allowed κ D l) k := by
  rw [al_has hP hk]; exact fun w => h w.1
theorem all100 {x : Int32} (h : x ≤ 99) : x < 100 := by
  have h1 := i_le.mp h
  have e9 : (99 : Int32).toInt = 99 := by decide
  have e0 : (100 : Int32).toInt = 100 := by decide
  rw [i_lt, e0]; omega
theorem nI_p1 {p : Nat} (h : p + 1 < 2 ^ 31) : nI (p + 1) - 1 = nI p := by
  have : nI (p + 1) - 1 = nI (p + 1) + (-1) := by rw [Int32.sub_eq_add_neg]
  rw [this]; exact nI_dec h
theorem nI_m {p : Nat} : nI p + (-1) = nI p - 1 := by rw [Int32.sub_eq_add_neg]
theorem fat_mem {κ : ll_K} {l to n k s : Nat} {A D W : Int32} (hk : k < n) (hdec : ll_has D k → pHead κ k = some s) (hAD : ll_has A k → ll_has D k) (hs : s < 100) : (pAt (k_decl κ l A D W to n) k = s ∧ ll_has D k) ↔ ll_has A k := by
  rw [at_headW hs, decl_head]
  constructor
  · intro w
    refine Decidable.byContradiction (fun hA => ?_)
    have w1 := w.1
    rw [if_pos ⟨hk, hA, w.2⟩] at w1
    cases w1
  · intro hA
    exact ⟨by rw [if_neg (fun w => w.2.1 hA)]; exact hdec (hAD hA), hAD hA⟩
theorem cross_D {κ : ll_K} {s g : Nat} {D : Int32} (h : ¬ gWatch κ g < 5) : k_cross κ s g D = k_cross1 κ s D (hidH κ s D) (acrossN κ g (sLand κ s)) False ∧ caughtN κ s g D = ll_cnt (fun p => ll_has (hidH κ s D) p ∧ False) (nP κ) := by
  refine ⟨by rw [k_cross, if_neg h], cnt_congr _ (fun p => ?_)⟩
  exact ⟨fun w => absurd w.2.1 h, fun w => w.2.elim⟩
theorem cross_N {κ : ll_K} {s g : Nat} {D : Int32} (h : gWatch κ g < 5) : k_cross κ s g D = k_cross1 (k_draw κ) s D (hidH (k_draw κ) s D) (acrossN κ g (sLand κ s)) (¬ gOdds κ g ≤ jd_rem (rNext κ) 10) ∧ caughtN κ s g D = ll_cnt (fun p => ll_has (hidH (k_draw κ) s D) p ∧ (¬ gOdds κ g ≤ jd_rem (rNext κ) 10)) (nP (k_draw κ)) := by
  constructor
  · rw [k_cross, if_pos h]
    by_cases e : jd_rem (rNext κ) 10 < gOdds κ g
    · rw [if_pos e, k_cross1_y (Int32.not_le.mpr e)]; rfl
    · rw [if_neg e, k_cross1_n (not_not_intro (Int32.not_lt.mp e))]; rfl
  · refine cnt_congr _ (fun p => ?_)
    exact ⟨fun w => ⟨w.1, Int32.not_le.mpr w.2.2⟩, fun w => ⟨w.1, h, Int32.not_le.mp w.2⟩⟩
theorem yawn0M {κ : ll_K} {g s : Nat} (h : s = qAt κ g 0) : k_lie (ll_sq (ll_sz κ 6 2 (yawns κ + 1)) g ((gQue κ g).eraseIdx 0)) s = k_yawn0 κ g := by
  subst h
  refine ll_Kext (fun _ _ => rfl) (fun a b => ?_) (fun _ _ => rfl) (fun _ _ => rfl) (fun _ => rfl) (fun _ => rfl) rfl (fun _ => rfl)
  simp only [k_yawn0, k_deq, k_lie, ll_sn, ll_so, ll_sz, ll_sq]
  by_cases e : a = 12 ∧ b = qAt κ g 0
  · rw [if_pos e, if_neg (fun w => by omega)]; simp only [ll_sq, if_pos e]
  · rw [if_neg e]; split <;> rfl
theorem yawn0_place {κ : ll_K} {g : Nat} (h : 0 < (gQue κ g).length) : placeOf κ g (qAt κ g 0) = some 0 := ll_find_some (P := fun j => qAt κ g j = qAt κ g 0) h rfl (fun i hi => absurd hi (Nat.not_lt_zero i))
theorem wearB_hst {κ : ll_K} {g i s : Nat} {v : Int32} (hI : ll_I κ) : ∀ q, q < nP κ → ∀ t, pHead (ll_sz (k_wearB κ g i) 11 s v) q = some t → pStore (ll_sz (k_wearB κ g i) 11 s v) q = none ∧ t < 128 := fun q hq t ht => by
  have h1 := wearB_hd (κ := κ) (g := g) (i := i) ht
  have hp := hI.2.2.2.1 q hq
  have h12 := hI.1.2.1
  refine ⟨?_, by have := hp.1 t h1; omega⟩
  have e : pStore (ll_sz (k_wearB κ g i) 11 s v) q = pStore κ q := wearB_st
  rw [e]
  cases e2 : pStore κ q with
  | none => rfl
  | some l => have := (hp.2.1 l e2).2; rw [h1] at this; cases this
