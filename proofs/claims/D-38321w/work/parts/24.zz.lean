/-! ===== zz: what acts do to the state ===== -/
theorem ll_Kext {κ κ' : ll_K} (h1 : ∀ a b, κ.1 a b = κ'.1 a b) (h2 : ∀ a b, κ.2.1 a b = κ'.2.1 a b) (h3 : ∀ a b, κ.2.2.1 a b = κ'.2.2.1 a b) (h4 : ∀ a b, κ.2.2.2.1 a b = κ'.2.2.2.1 a b) (h5 : ∀ a, κ.2.2.2.2.1 a = κ'.2.2.2.2.1 a) (h6 : ∀ a, κ.2.2.2.2.2.1 a = κ'.2.2.2.2.2.1 a) (h7 : κ.2.2.2.2.2.2.1 = κ'.2.2.2.2.2.2.1) (h8 : ∀ a, κ.2.2.2.2.2.2.2 a = κ'.2.2.2.2.2.2.2 a) : κ = κ' := by
  obtain ⟨a1, a2, a3, a4, a5, a6, a7, a8⟩ := κ
  obtain ⟨b1, b2, b3, b4, b5, b6, b7, b8⟩ := κ'
  have e1 : a1 = b1 := funext fun a => funext fun b => h1 a b
  have e2 : a2 = b2 := funext fun a => funext fun b => h2 a b
  have e3 : a3 = b3 := funext fun a => funext fun b => h3 a b
  have e4 : a4 = b4 := funext fun a => funext fun b => h4 a b
  have e5 : a5 = b5 := funext h5
  have e6 : a6 = b6 := funext h6
  have e7 : a7 = b7 := h7
  have e8 : a8 = b8 := funext h8
  rw [e1, e2, e3, e4, e5, e6, e7, e8]
theorem cnt_y {P : Nat → Prop} [DecidablePred P] {n : Nat} (h : P n) : ll_cnt P n + 1 = ll_cnt P (n + 1) := by
  show _ = ll_cnt P n + jd_b (P n)
  rw [jd_b1 h]
theorem cnt_n {P : Nat → Prop} [DecidablePred P] {n : Nat} (h : ¬ P n) : ll_cnt P n = ll_cnt P (n + 1) := by
  show _ = ll_cnt P n + jd_b (P n)
  rw [jd_b0 h, Int32.add_zero]
/-- the hidings after the first k of H were hidden -/
def hidP (κ : ll_K) (s : Nat) (H : Int32) : Nat → List (Nat × Nat × Nat)
  | 0 => hids κ
  | k + 1 => if ll_has H k then (if (hidP κ s H k).length < 40 then hidP κ s H k ++ [(s, pDream κ k, nNight κ)] else hidP κ s H k) else hidP κ s H k
theorem hidP_le {κ : ll_K} {s : Nat} {H : Int32} (h : (hids κ).length ≤ 40) : ∀ k, (hidP κ s H k).length ≤ 40
  | 0 => h
  | k + 1 => by
    have ih := hidP_le (s := s) (H := H) h k
    simp only [hidP]
    split
    · split
      · rw [List.length_append]; simp only [List.length_singleton]; omega
      · exact ih
    · exact ih
/-- the search, over the first k parts -/
def k_sea (κ : ll_K) (s : Nat) (H : Int32) (to : Nat) (c : Prop) [Decidable c] (k : Nat) : ll_K :=
  (fun a b => if a = 4 ∧ b < k ∧ ll_has H b then (if c then 3 else 4) else κ.1 a b,
   fun a b => if a = 5 ∧ b = to ∧ c then lFin κ to + ll_sum (fun p => if ll_has H p then pWorth κ p else 0) k else κ.2.1 a b,
   fun a b => if a = 3 ∧ b < k ∧ ll_has H b then some s else if a = 1 ∧ b < k ∧ ll_has H b ∧ c then none else if a = 2 ∧ b < k ∧ ll_has H b ∧ c then some to else κ.2.2.1 a b,
   κ.2.2.2.1, κ.2.2.2.2.1, κ.2.2.2.2.2.1, hidP κ s H k, κ.2.2.2.2.2.2.2)
theorem sea0 {κ : ll_K} {s : Nat} {H : Int32} {to : Nat} {c : Prop} [Decidable c] : k_sea κ s H to c 0 = κ := by
  refine ll_Kext (fun a b => ?_) (fun a b => ?_) (fun a b => ?_) (fun _ _ => rfl) (fun _ => rfl) (fun _ => rfl) rfl (fun _ => rfl)
  · simp [k_sea]
  · simp only [k_sea, ll_sum]
    split
    · next e => rw [Int32.add_zero, e.1, e.2.1]
    · rfl
  · simp [k_sea]
theorem ll_lts {b k : Nat} (h : ¬ b = k) : (b < k + 1) = (b < k) := propext (by omega)
theorem sea_no {κ : ll_K} {s : Nat} {H : Int32} {to : Nat} {c : Prop} [Decidable c] {k : Nat} (h : ¬ ll_has H k) : k_sea κ s H to c k = k_sea κ s H to c (k + 1) := by
  refine ll_Kext (fun a b => ?_) (fun a b => ?_) (fun a b => ?_) (fun _ _ => rfl) (fun _ => rfl) (fun _ => rfl) ?_ (fun _ => rfl)
  · by_cases e : b = k
    · subst e; simp [k_sea, h]
    · simp only [k_sea, ll_lts e]
  · simp only [k_sea, ll_sum, if_neg h, Int32.add_zero]
  · by_cases e : b = k
    · subst e; simp [k_sea, h]
    · simp only [k_sea, ll_lts e]
  · simp only [k_sea, hidP, if_neg h]
theorem sea_slip {κ : ll_K} {s : Nat} {H : Int32} {to : Nat} {c : Prop} [Decidable c] {k : Nat} (h : ll_has H k) (hc : ¬ c) : ll_sn (k_hide (k_sea κ s H to c k) s k) 4 k 4 = k_sea κ s H to c (k + 1) := by
  refine ll_Kext (fun a b => ?_) (fun a b => ?_) (fun a b => ?_) (fun _ _ => rfl) (fun _ => rfl) (fun _ => rfl) ?_ (fun _ => rfl)
  · by_cases e : b = k
    · subst e
      by_cases ea : a = 4
      · simp [k_sea, k_hide, ll_sn, ll_so, ll_sh, h, hc, ea]
      · simp [k_sea, k_hide, ll_sn, ll_so, ll_sh, ea]
    · simp only [k_sea, k_hide, ll_sn, ll_so, ll_sh, ll_lts e, e, and_false, if_false]
  · simp [k_sea, k_hide, ll_sn, ll_so, ll_sh, hc]
  · by_cases e : b = k
    · subst e
      by_cases ea : a = 3
      · simp [k_sea, k_hide, ll_sn, ll_so, ll_sh, h, hc, ea]
      · simp [k_sea, k_hide, ll_sn, ll_so, ll_sh, hc, ea]
    · simp only [k_sea, k_hide, ll_sn, ll_so, ll_sh, ll_lts e, e, and_false, if_false]
  · show _ = hidP κ s H (k + 1)
    simp only [hidP, if_pos h]; rfl
theorem sea_caught {κ : ll_K} {s : Nat} {H : Int32} {to : Nat} {c : Prop} [Decidable c] {k : Nat} (h : ll_has H k) (hc : c) : ll_sz (k_keep (k_hide (k_sea κ s H to c k) s k) k to 3) 5 to (lFin (k_sea κ s H to c k) to + pWorth κ k) = k_sea κ s H to c (k + 1) := by
  refine ll_Kext (fun a b => ?_) (fun a b => ?_) (fun a b => ?_) (fun _ _ => rfl) (fun _ => rfl) (fun _ => rfl) ?_ (fun _ => rfl)
  · by_cases e : b = k
    · subst e
      by_cases ea : a = 4
      · simp [k_sea, k_hide, k_keep, ll_sn, ll_so, ll_sh, ll_sz, h, hc, ea]
      · simp [k_sea, k_hide, k_keep, ll_sn, ll_so, ll_sh, ll_sz, ea]
    · simp only [k_sea, k_hide, k_keep, ll_sn, ll_so, ll_sh, ll_sz, ll_lts e, e, and_false, if_false]
  · by_cases e : a = 5 ∧ b = to
    · obtain ⟨rfl, rfl⟩ := e
      simp only [k_sea, k_hide, k_keep, ll_sn, ll_so, ll_sh, ll_sz, ll_sum, hc, and_self, if_true, lFin]
      rw [Int32.add_assoc, if_pos h]
    · have e2 : ¬ (a = 5 ∧ b = to ∧ c) := fun w => e ⟨w.1, w.2.1⟩
      simp only [k_sea, k_hide, k_keep, ll_sn, ll_so, ll_sh, ll_sz, if_neg e, if_neg e2]
  · by_cases e : b = k
    · subst e
      by_cases e3 : a = 3
      · simp [k_sea, k_hide, k_keep, ll_sn, ll_so, ll_sh, ll_sz, h, hc, e3]
      · by_cases e1 : a = 1
        · simp [k_sea, k_hide, k_keep, ll_sn, ll_so, ll_sh, ll_sz, h, hc, e1]
        · by_cases e2 : a = 2
          · simp [k_sea, k_hide, k_keep, ll_sn, ll_so, ll_sh, ll_sz, h, hc, e2]
          · simp [k_sea, k_hide, k_keep, ll_sn, ll_so, ll_sh, ll_sz, e1, e2, e3]
    · simp only [k_sea, k_hide, k_keep, ll_sn, ll_so, ll_sh, ll_sz, ll_lts e, e, and_false, if_false]
  · show _ = hidP κ s H (k + 1)
    simp only [hidP, if_pos h]; rfl
/-- what is declared, of the first k parts -/
def k_decl (κ : ll_K) (l : Nat) (A D W : Int32) (to k : Nat) : ll_K :=
  (fun a b => if a = 4 ∧ b < k ∧ ll_has A b then (if ¬ lAll κ to < W then 2 else 1) else if a = 4 ∧ b < k ∧ ll_has D b then 5 else κ.1 a b,
   fun a b => if a = 3 ∧ b = to then lNight κ to + ll_cnt (fun p => ll_has A p ∧ ¬ pDread κ p < 5) k else κ.2.1 a b,
   fun a b => if a = 1 ∧ b < k ∧ ¬ ll_has A b ∧ ll_has D b then none else if a = 2 ∧ b < k ∧ ¬ ll_has A b ∧ ll_has D b then some l else κ.2.2.1 a b,
   κ.2.2.2)
theorem decl0 {κ : ll_K} {l : Nat} {A D W : Int32} {to : Nat} : k_decl κ l A D W to 0 = κ := by
  refine ll_Kext (fun a b => ?_) (fun a b => ?_) (fun a b => ?_) (fun _ _ => rfl) (fun _ => rfl) (fun _ => rfl) rfl (fun _ => rfl)
  · simp [k_decl]
  · simp only [k_decl, ll_sum]
    split
    · next e => rw [Int32.add_zero, e.1, e.2]
    · rfl
  · simp [k_decl]
theorem decl_no {κ : ll_K} {l : Nat} {A D W : Int32} {to k : Nat} (hA : ¬ ll_has A k) (hD : ¬ ll_has D k) : k_decl κ l A D W to k = k_decl κ l A D W to (k + 1) := by
  refine ll_Kext (fun a b => ?_) (fun a b => ?_) (fun a b => ?_) (fun _ _ => rfl) (fun _ => rfl) (fun _ => rfl) rfl (fun _ => rfl)
  · by_cases e : b = k
    · subst e; simp [k_decl, hA, hD]
    · simp only [k_decl, ll_lts e]
  · simp only [k_decl]
    rw [cnt_n (P := fun p => ll_has A p ∧ ¬ pDread κ p < 5) (fun w => hA w.1)]
  · by_cases e : b = k
    · subst e; simp [k_decl, hD]
    · simp only [k_decl, ll_lts e]
theorem decl_out {κ : ll_K} {l : Nat} {A D W : Int32} {to k : Nat} (hA : ¬ ll_has A k) (hD : ll_has D k) : k_keep (k_decl κ l A D W to k) k l 5 = k_decl κ l A D W to (k + 1) := by
  refine ll_Kext (fun a b => ?_) (fun a b => ?_) (fun a b => ?_) (fun _ _ => rfl) (fun _ => rfl) (fun _ => rfl) rfl (fun _ => rfl)
  · by_cases e : b = k
    · subst e
      by_cases ea : a = 4
      · simp [k_decl, k_keep, ll_sn, ll_so, hA, hD, ea]
      · simp [k_decl, k_keep, ll_sn, ll_so, ea]
    · simp only [k_decl, k_keep, ll_sn, ll_so, ll_lts e, e, and_false, if_false]
  · simp only [k_decl, k_keep, ll_sn, ll_so]
    rw [cnt_n (P := fun p => ll_has A p ∧ ¬ pDread κ p < 5) (fun w => hA w.1)]
  · by_cases e : b = k
    · subst e
      by_cases e1 : a = 1
      · simp [k_decl, k_keep, ll_sn, ll_so, hA, hD, e1]
      · by_cases e2 : a = 2
        · simp [k_decl, k_keep, ll_sn, ll_so, hA, hD, e2]
        · simp [k_decl, k_keep, ll_sn, ll_so, e1, e2]
    · simp only [k_decl, k_keep, ll_sn, ll_so, ll_lts e, e, and_false, if_false]
theorem decl_in {κ : ll_K} {l : Nat} {A D W : Int32} {to k f : Nat} (hA : ll_has A k) (hf : f = if ¬ lAll κ to < W then 2 else 1) : ll_sz (ll_sn (k_decl κ l A D W to k) 4 k f) 3 to (lNight (k_decl κ l A D W to k) to + jd_b (¬ pDread κ k < 5)) = k_decl κ l A D W to (k + 1) := by
  refine ll_Kext (fun a b => ?_) (fun a b => ?_) (fun a b => ?_) (fun _ _ => rfl) (fun _ => rfl) (fun _ => rfl) rfl (fun _ => rfl)
  · by_cases e : b = k
    · subst e
      by_cases ea : a = 4
      · simp [k_decl, ll_sn, ll_sz, hA, ea, hf]
      · simp [k_decl, ll_sn, ll_sz, ea]
    · simp only [k_decl, ll_sn, ll_sz, ll_lts e, e, and_false, if_false]
  · by_cases e : a = 3 ∧ b = to
    · simp only [k_decl, ll_sz, ll_sn, if_pos e, lNight, and_self, if_true, ll_sum]
      rw [Int32.add_assoc, jd_bcong (show (¬ pDread κ k < 5) ↔ (ll_has A k ∧ ¬ pDread κ k < 5) from ⟨fun w => ⟨hA, w⟩, fun w => w.2⟩)]
    · simp only [k_decl, ll_sz, ll_sn, if_neg e]
  · by_cases e : b = k
    · subst e; simp [k_decl, ll_sn, ll_sz, hA]
    · simp only [k_decl, ll_sn, ll_sz, ll_lts e]
def k_declare (κ : ll_K) (s : Nat) (D : Int32) (to : Nat) : ll_K :=
  ll_sz (k_decl κ (sLand κ s) (allowed κ D to) D (worthOf κ (allowed κ D to)) to (nP κ)) 4 to (lDut κ to + dutyOf κ to (worthOf κ (allowed κ D to)))
def k_cross1 (κ : ll_K) (s : Nat) (D H : Int32) (to : Nat) (c : Prop) [Decidable c] : ll_K :=
  ll_sp (ll_sn (k_declare (k_sea κ s H to c (nP κ)) s D to) 2 s to) s none
abbrev hidH (κ : ll_K) (s : Nat) (D : Int32) : Int32 := headOf κ s &&& (D ^^^ (-1))
def k_cross (κ : ll_K) (s g : Nat) (D : Int32) : ll_K :=
  if gWatch κ g < 5 then (if jd_rem (rNext κ) 10 < gOdds κ g then k_cross1 (k_draw κ) s D (hidH κ s D) (acrossN κ g (sLand κ s)) True else k_cross1 (k_draw κ) s D (hidH κ s D) (acrossN κ g (sLand κ s)) False)
  else k_cross1 κ s D (hidH κ s D) (acrossN κ g (sLand κ s)) False
def caughtN (κ : ll_K) (s g : Nat) (D : Int32) : Int32 :=
  ll_cnt (fun p => ll_has (hidH κ s D) p ∧ (gWatch κ g < 5 ∧ jd_rem (rNext κ) 10 < gOdds κ g)) (nP κ)
/-- a sleeper goes, of the first k parts -/
def k_wk (κ : ll_K) (s k : Nat) : ll_K := (κ.1, κ.2.1, fun a b => if a = 1 ∧ b < k ∧ pHead κ b = some s then none else κ.2.2.1 a b, κ.2.2.2)
theorem wk0 {κ : ll_K} {s : Nat} : k_wk κ s 0 = κ := by
  refine ll_Kext (fun a b => rfl) (fun a b => rfl) (fun a b => ?_) (fun _ _ => rfl) (fun _ => rfl) (fun _ => rfl) rfl (fun _ => rfl)
  simp [k_wk]
theorem wk_get {κ : ll_K} {s k : Nat} : pHead (k_wk κ s k) k = pHead κ k := by simp [k_wk, pHead]
theorem wk_y {κ : ll_K} {s k : Nat} (h : pHead (k_wk κ s k) k = some s) : ll_so (k_wk κ s k) 1 k none = k_wk κ s (k + 1) := by
  rw [wk_get] at h
  refine ll_Kext (fun a b => rfl) (fun a b => rfl) (fun a b => ?_) (fun _ _ => rfl) (fun _ => rfl) (fun _ => rfl) rfl (fun _ => rfl)
  by_cases e : b = k
  · subst e
    by_cases ea : a = 1
    · simp [k_wk, ll_so, ea, h]
    · simp [k_wk, ll_so, ea]
  · simp only [k_wk, ll_so, ll_lts e, e, and_false, if_false]
theorem wk_n {κ : ll_K} {s k : Nat} (h : ¬ pHead (k_wk κ s k) k = some s) : ll_so (k_wk κ s k) 1 k (pHead (k_wk κ s k) k) = k_wk κ s (k + 1) := by
  rw [wk_get] at h
  rw [wk_get]
  refine ll_Kext (fun a b => rfl) (fun a b => rfl) (fun a b => ?_) (fun _ _ => rfl) (fun _ => rfl) (fun _ => rfl) rfl (fun _ => rfl)
  by_cases e : b = k
  · subst e
    by_cases ea : a = 1
    · simp [k_wk, ll_so, ea, h]
    · simp [k_wk, ll_so, ea]
  · simp only [k_wk, ll_so, ll_lts e, e, and_false, if_false]
def k_wake (κ : ll_K) (s : Nat) : ll_K := k_wk (ll_sn (k_lie κ s) 3 s 2) s (nP κ)
/-- those of D wore; the queue is q -/
def k_wear (κ : ll_K) (g : Nat) (D : Nat → Bool) (q : List Nat) : ll_K :=
  (fun a b => if a = 3 ∧ D b = true ∧ sPat κ b = 1 then 2 else κ.1 a b,
   fun a b => if a = 12 ∧ D b = true ∧ sPat κ b = 1 then 0 else if a = 11 ∧ D b = true then sPat κ b - 1 else κ.2.1 a b,
   fun a b => if a = 0 ∧ D b = true ∧ sPat κ b = 1 then none else if a = 1 ∧ b < nP κ ∧ (pHead κ b).any (fun s => D s && decide (sPat κ s = 1)) = true then none else κ.2.2.1 a b,
   κ.2.2.2.1, κ.2.2.2.2.1, fun a => if a = g then q else gQue κ a, κ.2.2.2.2.2.2)
theorem wear0 {κ : ll_K} {g : Nat} {D : Nat → Bool} (h : ∀ b, D b = false) : k_wear κ g D (gQue κ g) = κ := by
  refine ll_Kext (fun a b => ?_) (fun a b => ?_) (fun a b => ?_) (fun _ _ => rfl) (fun _ => rfl) (fun a => ?_) rfl (fun _ => rfl)
  · simp [k_wear, h]
  · simp [k_wear, h]
  · have : (pHead κ b).any (fun s => D s && decide (sPat κ s = 1)) = false := by
      cases pHead κ b with
      | none => rfl
      | some j => simp [h]
    simp [k_wear, h, this]
  · simp only [k_wear]
    split
    · next e => rw [e]
    · rfl
theorem wear_y {κ : ll_K} {g s : Nat} {D D' : Nat → Bool} {q q' : List Nat} (hD : ∀ b, D' b = (D b || decide (b = s))) (hs : D s = false) (h1 : ¬ sPat κ s = 1) (hq : q = q') : ll_sz (k_wear κ g D q) 11 s (sPat (k_wear κ g D q) s - 1) = k_wear κ g D' q' := by
  subst hq
  have hb : ∀ b, b ≠ s → D' b = D b := fun b e => by rw [hD]; simp [e]
  have hss : D' s = true := by rw [hD]; simp
  refine ll_Kext (fun a b => ?_) (fun a b => ?_) (fun a b => ?_) (fun _ _ => rfl) (fun _ => rfl) (fun a => rfl) rfl (fun _ => rfl)
  · by_cases e : b = s
    · subst e; simp [k_wear, ll_sz, hs, hss, h1]
    · simp [k_wear, ll_sz, hb b e]
  · by_cases e : b = s
    · subst e
      by_cases ea : a = 11
      · simp [k_wear, ll_sz, hs, hss, ea, sPat]
      · simp [k_wear, ll_sz, hs, hss, h1, ea]
    · simp [k_wear, ll_sz, hb b e, e]
  · by_cases e : b = s
    · have ha : (pHead κ b).any (fun s => D s && decide (sPat κ s = 1)) = (pHead κ b).any (fun s => D' s && decide (sPat κ s = 1)) := by
        cases pHead κ b with
        | none => rfl
        | some j =>
          by_cases ej : j = s
          · subst ej; simp [hs, h1]
          · simp [hb j ej]
      subst e; simp [k_wear, ll_sz, hs, h1, ha]
    · have ha : (pHead κ b).any (fun s => D s && decide (sPat κ s = 1)) = (pHead κ b).any (fun s => D' s && decide (sPat κ s = 1)) := by
        cases pHead κ b with
        | none => rfl
        | some j =>
          by_cases ej : j = s
          · subst ej; simp [hs, h1]
          · simp [hb j ej]
      simp [k_wear, ll_sz, hb b e, ha]
theorem wear_d {κ : ll_K} {g s : Nat} {D D' : Nat → Bool} {q q' : List Nat} (hD : ∀ b, D' b = (D b || decide (b = s))) (hs : D s = false) (h1 : sPat κ s = 1) : k_wake (ll_sq (ll_sz (k_wear κ g D q) 11 s (sPat (k_wear κ g D q) s - 1)) g q') s = k_wear κ g D' q' := by
  have hb : ∀ b, b ≠ s → D' b = D b := fun b e => by rw [hD]; simp [e]
  have hss : D' s = true := by rw [hD]; simp
  refine ll_Kext (fun a b => ?_) (fun a b => ?_) (fun a b => ?_) (fun _ _ => rfl) (fun _ => rfl) (fun a => ?_) rfl (fun _ => rfl)
  · by_cases e : b = s
    · subst e
      by_cases ea : a = 3
      · simp [k_wake, k_wk, k_lie, ll_sn, ll_so, ll_sz, ll_sq, k_wear, hss, h1, ea]
      · simp [k_wake, k_wk, k_lie, ll_sn, ll_so, ll_sz, ll_sq, k_wear, ea]
    · simp [k_wake, k_wk, k_lie, ll_sn, ll_so, ll_sz, ll_sq, k_wear, hb b e, e]
  · by_cases e : b = s
    · subst e
      by_cases ea : a = 12
      · simp [k_wake, k_wk, k_lie, ll_sn, ll_so, ll_sz, ll_sq, k_wear, hss, h1, ea]
      · by_cases e11 : a = 11
        · simp [k_wake, k_wk, k_lie, ll_sn, ll_so, ll_sz, ll_sq, k_wear, hs, hss, e11, sPat]
        · simp [k_wake, k_wk, k_lie, ll_sn, ll_so, ll_sz, ll_sq, k_wear, ea, e11]
    · simp [k_wake, k_wk, k_lie, ll_sn, ll_so, ll_sz, ll_sq, k_wear, hb b e, e]
  · by_cases ea : a = 1
    · subst ea
      by_cases hbn : b < nP κ
      · cases ep : pHead κ b with
        | none =>
          have ep' : κ.2.2.1 1 b = none := ep
          simp [k_wake, k_wk, k_lie, ll_sn, ll_so, ll_sz, ll_sq, k_wear, pHead, ep', nP]
        | some j =>
          have ep' : κ.2.2.1 1 b = some j := ep
          have hbn' : b < κ.1 9 2 := hbn
          by_cases ej : j = s
          · subst ej
            simp [k_wake, k_wk, k_lie, ll_sn, ll_so, ll_sz, ll_sq, k_wear, pHead, ep', nP, hs, hss, h1, hbn', sPat] at h1 ⊢
          · by_cases hd : D j = true ∧ sPat κ j = 1
            · have hd2 : κ.2.1 11 j = 1 := hd.2
              simp [k_wake, k_wk, k_lie, ll_sn, ll_so, ll_sz, ll_sq, k_wear, pHead, ep', nP, hb j ej, hd.1, hd2, hbn', sPat]
            · have hd' : ¬ (D j = true ∧ κ.2.1 11 j = 1) := hd
              simp [k_wake, k_wk, k_lie, ll_sn, ll_so, ll_sz, ll_sq, k_wear, pHead, ep', nP, hb j ej, hd', hbn', sPat, ej]
      · have hbn' : ¬ b < κ.1 9 2 := hbn
        simp [k_wake, k_wk, k_lie, ll_sn, ll_so, ll_sz, ll_sq, k_wear, pHead, nP, hbn']
    · by_cases e : b = s
      · subst e
        by_cases e0 : a = 0
        · simp [k_wake, k_wk, k_lie, ll_sn, ll_so, ll_sz, ll_sq, k_wear, hss, h1, e0]
        · simp [k_wake, k_wk, k_lie, ll_sn, ll_so, ll_sz, ll_sq, k_wear, e0, ea]
      · simp [k_wake, k_wk, k_lie, ll_sn, ll_so, ll_sz, ll_sq, k_wear, hb b e, e, ea]
  · simp only [k_wake, k_wk, k_lie, ll_sn, ll_so, ll_sz, ll_sq, k_wear, gQue]
    split <;> rfl
