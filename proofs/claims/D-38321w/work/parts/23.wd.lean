/-! ===== worlds (printed by world.py): the state that both programs hold ===== -/
abbrev ll_K : Type := (Nat → Nat → Nat) × (Nat → Nat → Int32) × (Nat → Nat → Option Nat) × (Nat → Nat → Bool) × (Nat → Option (Nat × Nat × Nat)) × (Nat → List Nat) × List (Nat × Nat × Nat) × (Nat → Bool)
abbrev gOne (κ : ll_K) (k : Nat) : Nat := κ.1 0 k
abbrev gOther (κ : ll_K) (k : Nat) : Nat := κ.1 1 k
abbrev sLand (κ : ll_K) (k : Nat) : Nat := κ.1 2 k
abbrev sRest (κ : ll_K) (k : Nat) : Nat := κ.1 3 k
abbrev pFate (κ : ll_K) (k : Nat) : Nat := κ.1 4 k
abbrev pDream (κ : ll_K) (k : Nat) : Nat := κ.1 5 k
abbrev nG (κ : ll_K) : Nat := κ.1 9 0
abbrev nS (κ : ll_K) : Nat := κ.1 9 1
abbrev nP (κ : ll_K) : Nat := κ.1 9 2
abbrev nNight (κ : ll_K) : Nat := κ.1 9 3
abbrev nHour (κ : ll_K) : Nat := κ.1 9 4
abbrev lRate (κ : ll_K) (k : Nat) : Int32 := κ.2.1 0 k
abbrev lAll (κ : ll_K) (k : Nat) : Int32 := κ.2.1 1 k
abbrev lQuo (κ : ll_K) (k : Nat) : Int32 := κ.2.1 2 k
abbrev lNight (κ : ll_K) (k : Nat) : Int32 := κ.2.1 3 k
abbrev lDut (κ : ll_K) (k : Nat) : Int32 := κ.2.1 4 k
abbrev lFin (κ : ll_K) (k : Nat) : Int32 := κ.2.1 5 k
abbrev gFrom (κ : ll_K) (k : Nat) : Int32 := κ.2.1 7 k
abbrev gHours (κ : ll_K) (k : Nat) : Int32 := κ.2.1 8 k
abbrev gOdds (κ : ll_K) (k : Nat) : Int32 := κ.2.1 9 k
abbrev gWatch (κ : ll_K) (k : Nat) : Int32 := κ.2.1 10 k
abbrev sPat (κ : ll_K) (k : Nat) : Int32 := κ.2.1 11 k
abbrev sDecl (κ : ll_K) (k : Nat) : Int32 := κ.2.1 12 k
abbrev pWorth (κ : ll_K) (k : Nat) : Int32 := κ.2.1 14 k
abbrev pDread (κ : ll_K) (k : Nat) : Int32 := κ.2.1 15 k
abbrev yawns (κ : ll_K) : Int32 := κ.2.1 6 2
abbrev rNext (κ : ll_K) : Int32 := κ.2.1 6 3
abbrev rDrawn (κ : ll_K) : Int32 := κ.2.1 6 4
abbrev sGate (κ : ll_K) (k : Nat) : Option Nat := κ.2.2.1 0 k
abbrev pHead (κ : ll_K) (k : Nat) : Option Nat := κ.2.2.1 1 k
abbrev pStore (κ : ll_K) (k : Nat) : Option Nat := κ.2.2.1 2 k
abbrev pBy (κ : ll_K) (k : Nat) : Option Nat := κ.2.2.1 3 k
abbrev gRev (κ : ll_K) (k v : Nat) : Bool := κ.2.2.2.1 k v
abbrev sPass (κ : ll_K) (k : Nat) : Option (Nat × Nat × Nat) := κ.2.2.2.2.1 k
abbrev gQue (κ : ll_K) (k : Nat) : List Nat := κ.2.2.2.2.2.1 k
abbrev hids (κ : ll_K) : List (Nat × Nat × Nat) := κ.2.2.2.2.2.2.1
abbrev sBaby (κ : ll_K) (k : Nat) : Bool := κ.2.2.2.2.2.2.2 k
/-- updates -/
def ll_sn (κ : ll_K) (f k v : Nat) : ll_K := (fun a b => if a = f ∧ b = k then v else κ.1 a b, κ.2)
def ll_sz (κ : ll_K) (f k : Nat) (v : Int32) : ll_K := (κ.1, fun a b => if a = f ∧ b = k then v else κ.2.1 a b, κ.2.2)
def ll_so (κ : ll_K) (f k : Nat) (v : Option Nat) : ll_K := (κ.1, κ.2.1, fun a b => if a = f ∧ b = k then v else κ.2.2.1 a b, κ.2.2.2)
def ll_sr (κ : ll_K) (k : Nat) (v : Nat → Bool) : ll_K := (κ.1, κ.2.1, κ.2.2.1, fun a => if a = k then v else κ.2.2.2.1 a, κ.2.2.2.2)
def ll_sp (κ : ll_K) (k : Nat) (v : Option (Nat × Nat × Nat)) : ll_K := (κ.1, κ.2.1, κ.2.2.1, κ.2.2.2.1, fun a => if a = k then v else κ.2.2.2.2.1 a, κ.2.2.2.2.2)
def ll_sq (κ : ll_K) (k : Nat) (v : List Nat) : ll_K := (κ.1, κ.2.1, κ.2.2.1, κ.2.2.2.1, κ.2.2.2.2.1, fun a => if a = k then v else κ.2.2.2.2.2.1 a, κ.2.2.2.2.2.2)
def ll_sh (κ : ll_K) (v : List (Nat × Nat × Nat)) : ll_K := (κ.1, κ.2.1, κ.2.2.1, κ.2.2.2.1, κ.2.2.2.2.1, κ.2.2.2.2.2.1, v, κ.2.2.2.2.2.2.2)
def ll_sb (κ : ll_K) (k : Nat) (v : Bool) : ll_K := (κ.1, κ.2.1, κ.2.2.1, κ.2.2.2.1, κ.2.2.2.2.1, κ.2.2.2.2.2.1, κ.2.2.2.2.2.2.1, fun a => if a = k then v else κ.2.2.2.2.2.2.2 a)
/-- a number that may be none -/
def oI : Option Nat → Int32
  | none => -1
  | some j => nI j
theorem oI_none : oI none = -1 := rfl
theorem oI_some {j : Nat} : oI (some j) = nI j := rfl
theorem nI_m1 {j : Nat} (h : j < 2 ^ 31) : nI j ≠ -1 := fun e => by
  have h1 := congrArg Int32.toInt e
  rw [nI_toInt h] at h1
  have h2 : (-1 : Int32).toInt = -1 := by decide
  rw [h2] at h1
  omega
theorem oI_m1 {o : Option Nat} (h : ∀ j, o = some j → j < 2 ^ 31) : oI o = -1 ↔ o = none := by
  cases o with
  | none => exact ⟨fun _ => rfl, fun _ => rfl⟩
  | some j => exact ⟨fun e => absurd e (nI_m1 (h j rfl)), fun e => by cases e⟩
theorem oI_nI {o : Option Nat} {k : Nat} (h : ∀ j, o = some j → j < 2 ^ 31) (hk : k < 2 ^ 31) : oI o = nI k ↔ o = some k := by
  cases o with
  | none => exact ⟨fun e => absurd e.symm (nI_m1 hk), fun e => by cases e⟩
  | some j => exact ⟨fun e => by rw [(nI_eq (h j rfl) hk).mp e], fun e => by cases e; rfl⟩
/-- a pass's verse, or none -/
def oV : Option (Nat × Nat × Nat) → Int32
  | none => -1
  | some q => nI q.2.2
/-- where a part is, in the model's number -/
def atN : Option Nat → Option Nat → Nat
  | some j, _ => j
  | none, some l => 100 + l
  | none, none => 999
abbrev pAt (κ : ll_K) (k : Nat) : Nat := atN (pHead κ k) (pStore κ k)
/-- the model's list of hidings, by places -/
def hidN (κ : ll_K) (j : Nat) : Nat := if j % 3 = 0 then ((hids κ).getD (j / 3) (0, 0, 0)).1 else if j % 3 = 1 then ((hids κ).getD (j / 3) (0, 0, 0)).2.1 else ((hids κ).getD (j / 3) (0, 0, 0)).2.2
abbrev ll_B : Type := Nat → Nat → Nat
/-- what the model has besides: 0 0 thrown, 1 isMore, 2 declares, 3 passGate, 4 passNight of each sleeper; its sum -/
abbrev ll_U : Type := (Nat → Nat → Int32) × Int64
def WC (G : jd_G) (β : ll_B) (κ : ll_K) (h : jd_H) : Prop :=
  h (1, 0) = some (β 0 0, .inl (.inr (0, [.ref (β 0 2), .ref (β 0 3), .ref (β 0 4), .ref (β 0 5), .ref (β 0 6), .ref (β 0 1), .int (nI ((nNight κ))), .int (nI ((nHour κ))), .int ((yawns κ))]))) ∧
  h (1, 1) = some (β 0 1, .inl (.inr (1, [.int ((rNext κ)), .int ((rDrawn κ))]))) ∧
  (∀ k, k < 6 → h (3, k) = some (β 1 k, .inl (.inr (2, [.int ((lRate κ k)), .int ((lAll κ k)), .int ((lQuo κ k)), .int ((lNight κ k)), .int ((lDut κ k)), .int ((lFin κ k))])))) ∧
  (∀ k, k < nG κ → h (4, k) = some (β 2 k, .inl (.inr (3, [.int (nI ((gOne κ k))), .int (nI ((gOther κ k))), .int ((gFrom κ k)), .int ((gHours κ k)), .int ((gOdds κ k)), .int ((gWatch κ k)), .ref (β 4 k), .ref (β 3 k)])))) ∧
  (∀ k, k < nS κ → h (7, k) = some (β 5 k, .inl (.inr (4, [.int (nI k), .int (jd_b (sBaby κ k = true)), .int (nI ((sLand κ k))), .int ((sPat κ k)), .ref (jd_rA G (sRest κ k)), .int ((oI (sGate κ k))), .int ((sDecl κ k)), .ref (β 6 k)])))) ∧
  (∀ k, k < nP κ → h (10, k) = some (β 8 k, .inl (.inr (5, [.int (nI ((pDream κ k))), .int ((pWorth κ k)), .int ((pDread κ k)), .int ((oI (pHead κ k))), .int ((oI (pStore κ k))), .ref (jd_fA G (pFate κ k)), .int ((oI (pBy κ k)))])))) ∧
  (∃ mc, h (2, 0) = some (β 0 2, .inr (mc, 6, β 1))) ∧
  (∃ mc, h (2, 1) = some (β 0 3, .inr (mc, nG κ, β 2))) ∧
  (∃ mc, h (2, 2) = some (β 0 4, .inr (mc, nS κ, β 5))) ∧
  (∃ mc, h (2, 3) = some (β 0 5, .inr (mc, nP κ, β 8))) ∧
  (∃ mc, h (2, 4) = some (β 0 6, .inr (mc, (hids κ).length, β 9))) ∧
  (∀ k, k < nG κ → ∃ mc, h (5, k) = some (β 3 k, .inr (mc, (gQue κ k).length, fun j => β 5 ((gQue κ k).getD j 12)))) ∧
  (∀ k, k < nG κ → h (6, k) = some (β 4 k, .inl (.inl (G.2.1 1, 97, .inl (fun v => jd_b (gRev κ k v = true)))))) ∧
  (∀ k, k < nS κ → sPass κ k = none → β 6 k = jd_k G 1) ∧
  (∀ k, k < nS κ → ∀ q, sPass κ k = some q → h (0, β 6 k) = some (β 6 k, .inl (.inr (17, [.ref (β 7 k)]))) ∧ h (0, β 7 k) = some (β 7 k, .inl (.inr (6, [.int (nI q.1), .int (nI q.2.1), .int (nI q.2.2)])))) ∧
  (∀ k, k < (hids κ).length → h (0, β 9 k) = some (β 9 k, .inl (.inr (7, [.int (nI ((hids κ).getD k (0, 0, 0)).1), .int (nI ((hids κ).getD k (0, 0, 0)).2.1), .int (nI ((hids κ).getD k (0, 0, 0)).2.2)])))) ∧
  (∀ k, (nG κ ≤ k → h (4, k) = none ∧ h (5, k) = none ∧ h (6, k) = none) ∧ (nS κ ≤ k → h (7, k) = none) ∧ (nP κ ≤ k → h (10, k) = none))
theorem w_this {G : jd_G} {β : ll_B} {κ : ll_K}  {h : jd_H} (hw : WC G β κ h) : h (1, 0) = some (β 0 0, .inl (.inr (0, [.ref (β 0 2), .ref (β 0 3), .ref (β 0 4), .ref (β 0 5), .ref (β 0 6), .ref (β 0 1), .int (nI ((nNight κ))), .int (nI ((nHour κ))), .int ((yawns κ))]))) := hw.1
theorem w_row {G : jd_G} {β : ll_B} {κ : ll_K}  {h : jd_H} (hw : WC G β κ h) : h (1, 1) = some (β 0 1, .inl (.inr (1, [.int ((rNext κ)), .int ((rDrawn κ))]))) := hw.2.1
theorem w_land {G : jd_G} {β : ll_B} {κ : ll_K}  {h : jd_H} (hw : WC G β κ h) : (∀ k, k < 6 → h (3, k) = some (β 1 k, .inl (.inr (2, [.int ((lRate κ k)), .int ((lAll κ k)), .int ((lQuo κ k)), .int ((lNight κ k)), .int ((lDut κ k)), .int ((lFin κ k))])))) := hw.2.2.1
theorem w_gate {G : jd_G} {β : ll_B} {κ : ll_K}  {h : jd_H} (hw : WC G β κ h) : (∀ k, k < nG κ → h (4, k) = some (β 2 k, .inl (.inr (3, [.int (nI ((gOne κ k))), .int (nI ((gOther κ k))), .int ((gFrom κ k)), .int ((gHours κ k)), .int ((gOdds κ k)), .int ((gWatch κ k)), .ref (β 4 k), .ref (β 3 k)])))) := hw.2.2.2.1
theorem w_sleeper {G : jd_G} {β : ll_B} {κ : ll_K}  {h : jd_H} (hw : WC G β κ h) : (∀ k, k < nS κ → h (7, k) = some (β 5 k, .inl (.inr (4, [.int (nI k), .int (jd_b (sBaby κ k = true)), .int (nI ((sLand κ k))), .int ((sPat κ k)), .ref (jd_rA G (sRest κ k)), .int ((oI (sGate κ k))), .int ((sDecl κ k)), .ref (β 6 k)])))) := hw.2.2.2.2.1
theorem w_part {G : jd_G} {β : ll_B} {κ : ll_K}  {h : jd_H} (hw : WC G β κ h) : (∀ k, k < nP κ → h (10, k) = some (β 8 k, .inl (.inr (5, [.int (nI ((pDream κ k))), .int ((pWorth κ k)), .int ((pDread κ k)), .int ((oI (pHead κ k))), .int ((oI (pStore κ k))), .ref (jd_fA G (pFate κ k)), .int ((oI (pBy κ k)))])))) := hw.2.2.2.2.2.1
theorem w_lands {G : jd_G} {β : ll_B} {κ : ll_K}  {h : jd_H} (hw : WC G β κ h) : (∃ mc, h (2, 0) = some (β 0 2, .inr (mc, 6, β 1))) := hw.2.2.2.2.2.2.1
theorem w_gates {G : jd_G} {β : ll_B} {κ : ll_K}  {h : jd_H} (hw : WC G β κ h) : (∃ mc, h (2, 1) = some (β 0 3, .inr (mc, nG κ, β 2))) := hw.2.2.2.2.2.2.2.1
theorem w_sleepers {G : jd_G} {β : ll_B} {κ : ll_K}  {h : jd_H} (hw : WC G β κ h) : (∃ mc, h (2, 2) = some (β 0 4, .inr (mc, nS κ, β 5))) := hw.2.2.2.2.2.2.2.2.1
theorem w_parts {G : jd_G} {β : ll_B} {κ : ll_K}  {h : jd_H} (hw : WC G β κ h) : (∃ mc, h (2, 3) = some (β 0 5, .inr (mc, nP κ, β 8))) := hw.2.2.2.2.2.2.2.2.2.1
theorem w_hidings {G : jd_G} {β : ll_B} {κ : ll_K}  {h : jd_H} (hw : WC G β κ h) : (∃ mc, h (2, 4) = some (β 0 6, .inr (mc, (hids κ).length, β 9))) := hw.2.2.2.2.2.2.2.2.2.2.1
theorem w_queue {G : jd_G} {β : ll_B} {κ : ll_K}  {h : jd_H} (hw : WC G β κ h) : (∀ k, k < nG κ → ∃ mc, h (5, k) = some (β 3 k, .inr (mc, (gQue κ k).length, fun j => β 5 ((gQue κ k).getD j 12)))) := hw.2.2.2.2.2.2.2.2.2.2.2.1
theorem w_rev {G : jd_G} {β : ll_B} {κ : ll_K}  {h : jd_H} (hw : WC G β κ h) : (∀ k, k < nG κ → h (6, k) = some (β 4 k, .inl (.inl (G.2.1 1, 97, .inl (fun v => jd_b (gRev κ k v = true)))))) := hw.2.2.2.2.2.2.2.2.2.2.2.2.1
theorem w_passN {G : jd_G} {β : ll_B} {κ : ll_K}  {h : jd_H} (hw : WC G β κ h) : (∀ k, k < nS κ → sPass κ k = none → β 6 k = jd_k G 1) := hw.2.2.2.2.2.2.2.2.2.2.2.2.2.1
theorem w_pass {G : jd_G} {β : ll_B} {κ : ll_K}  {h : jd_H} (hw : WC G β κ h) : (∀ k, k < nS κ → ∀ q, sPass κ k = some q → h (0, β 6 k) = some (β 6 k, .inl (.inr (17, [.ref (β 7 k)]))) ∧ h (0, β 7 k) = some (β 7 k, .inl (.inr (6, [.int (nI q.1), .int (nI q.2.1), .int (nI q.2.2)])))) := hw.2.2.2.2.2.2.2.2.2.2.2.2.2.2.1
theorem w_hid {G : jd_G} {β : ll_B} {κ : ll_K}  {h : jd_H} (hw : WC G β κ h) : (∀ k, k < (hids κ).length → h (0, β 9 k) = some (β 9 k, .inl (.inr (7, [.int (nI ((hids κ).getD k (0, 0, 0)).1), .int (nI ((hids κ).getD k (0, 0, 0)).2.1), .int (nI ((hids κ).getD k (0, 0, 0)).2.2)])))) := hw.2.2.2.2.2.2.2.2.2.2.2.2.2.2.2.1
theorem w_free {G : jd_G} {β : ll_B} {κ : ll_K}  {h : jd_H} (hw : WC G β κ h) : (∀ k, (nG κ ≤ k → h (4, k) = none ∧ h (5, k) = none ∧ h (6, k) = none) ∧ (nS κ ≤ k → h (7, k) = none) ∧ (nP κ ≤ k → h (10, k) = none)) := hw.2.2.2.2.2.2.2.2.2.2.2.2.2.2.2.2
def WM (G : jd_G) (γ : ll_B) (κ : ll_K) (μ : ll_U) (h : jd_H) : Prop :=
  h (21, 0) = some (γ 0 0, .inl (.inr (9, [.int ((μ.1 0 0)), .int (nI ((nNight κ))), .int (nI ((nHour κ))), .int ((rNext κ)), .int ((rDrawn κ)), .int ((yawns κ)), .ref (γ 0 1), .ref (γ 0 2), .ref (γ 0 3), .ref (γ 0 4), .ref (γ 0 5), .ref (γ 0 6), .long (μ.2)]))) ∧
  (∀ k, k < 6 → h (23, k) = some (γ 1 k, .inl (.inr (10, [.int ((lRate κ k)), .int ((lAll κ k)), .int ((lQuo κ k)), .int ((lNight κ k)), .int ((lDut κ k)), .int ((lFin κ k))])))) ∧
  (∀ k, k < nG κ → h (24, k) = some (γ 2 k, .inl (.inr (11, [.int (nI ((gOne κ k))), .int (nI ((gOther κ k))), .int ((gFrom κ k)), .int ((gHours κ k)), .int ((gOdds κ k)), .int ((gWatch κ k)), .ref (γ 3 k), .ref (γ 4 k)])))) ∧
  (∀ k, k < nS κ → h (27, k) = some (γ 5 k, .inl (.inr (12, [.int (nI ((sLand κ k))), .int (jd_b (sBaby κ k = true)), .int ((sPat κ k)), .int (nI ((sRest κ k))), .int ((oI (sGate κ k))), .int ((μ.1 2 k)), .int ((μ.1 3 k)), .int ((μ.1 4 k)), .int ((oV (sPass κ k)))])))) ∧
  (∀ k, k < nP κ → h (30, k) = some (γ 6 k, .inl (.inr (13, [.int (nI ((pDream κ k))), .int ((pWorth κ k)), .int ((pDread κ k)), .int (nI ((pFate κ k))), .int (nI ((pAt κ k))), .int ((oI (pBy κ k)))])))) ∧
  h (21, 1) = some (γ 0 1, .inl (.inl (G.2.1 5, 6, .inr (.inr (.inr (.inr (fun k => some (γ 1 k)))))))) ∧
  h (21, 6) = some (γ 0 6, .inl (.inl (G.2.1 1, 776, .inl (fun k => μ.1 1 k)))) ∧
  (∃ mc, h (22, 1) = some (γ 0 2, .inr (mc, nG κ, γ 2))) ∧
  (∃ mc, h (22, 2) = some (γ 0 3, .inr (mc, nS κ, γ 5))) ∧
  (∃ mc, h (22, 3) = some (γ 0 4, .inr (mc, nP κ, γ 6))) ∧
  (∃ mc, h (22, 4) = some (γ 0 5, .inr (mc, 3 * (hids κ).length, fun j => jd_bx G (hidN κ j)))) ∧
  (∀ k, k < nG κ → ∃ mc, h (25, k) = some (γ 3 k, .inr (mc, (gQue κ k).length, fun j => jd_bx G ((gQue κ k).getD j 12)))) ∧
  (∀ k, k < nG κ → h (26, k) = some (γ 4 k, .inl (.inl (G.2.1 1, 97, .inl (fun v => jd_b (gRev κ k v = true)))))) ∧
  (∀ k, k < nS κ → sRest κ k = 1 → μ.1 2 k = sDecl κ k) ∧
  (∀ k, k < nS κ → ∀ q, sPass κ k = some q → μ.1 3 k = nI q.1 ∧ μ.1 4 k = nI q.2.1) ∧
  (∀ k, (nG κ ≤ k → h (24, k) = none ∧ h (25, k) = none ∧ h (26, k) = none) ∧ (nS κ ≤ k → h (27, k) = none) ∧ (nP κ ≤ k → h (30, k) = none))
theorem w_mthis {G : jd_G} {γ : ll_B} {κ : ll_K} {μ : ll_U} {h : jd_H} (hw : WM G γ κ μ h) : h (21, 0) = some (γ 0 0, .inl (.inr (9, [.int ((μ.1 0 0)), .int (nI ((nNight κ))), .int (nI ((nHour κ))), .int ((rNext κ)), .int ((rDrawn κ)), .int ((yawns κ)), .ref (γ 0 1), .ref (γ 0 2), .ref (γ 0 3), .ref (γ 0 4), .ref (γ 0 5), .ref (γ 0 6), .long (μ.2)]))) := hw.1
theorem w_mland {G : jd_G} {γ : ll_B} {κ : ll_K} {μ : ll_U} {h : jd_H} (hw : WM G γ κ μ h) : (∀ k, k < 6 → h (23, k) = some (γ 1 k, .inl (.inr (10, [.int ((lRate κ k)), .int ((lAll κ k)), .int ((lQuo κ k)), .int ((lNight κ k)), .int ((lDut κ k)), .int ((lFin κ k))])))) := hw.2.1
theorem w_mgate {G : jd_G} {γ : ll_B} {κ : ll_K} {μ : ll_U} {h : jd_H} (hw : WM G γ κ μ h) : (∀ k, k < nG κ → h (24, k) = some (γ 2 k, .inl (.inr (11, [.int (nI ((gOne κ k))), .int (nI ((gOther κ k))), .int ((gFrom κ k)), .int ((gHours κ k)), .int ((gOdds κ k)), .int ((gWatch κ k)), .ref (γ 3 k), .ref (γ 4 k)])))) := hw.2.2.1
theorem w_msleeper {G : jd_G} {γ : ll_B} {κ : ll_K} {μ : ll_U} {h : jd_H} (hw : WM G γ κ μ h) : (∀ k, k < nS κ → h (27, k) = some (γ 5 k, .inl (.inr (12, [.int (nI ((sLand κ k))), .int (jd_b (sBaby κ k = true)), .int ((sPat κ k)), .int (nI ((sRest κ k))), .int ((oI (sGate κ k))), .int ((μ.1 2 k)), .int ((μ.1 3 k)), .int ((μ.1 4 k)), .int ((oV (sPass κ k)))])))) := hw.2.2.2.1
theorem w_mpart {G : jd_G} {γ : ll_B} {κ : ll_K} {μ : ll_U} {h : jd_H} (hw : WM G γ κ μ h) : (∀ k, k < nP κ → h (30, k) = some (γ 6 k, .inl (.inr (13, [.int (nI ((pDream κ k))), .int ((pWorth κ k)), .int ((pDread κ k)), .int (nI ((pFate κ k))), .int (nI ((pAt κ k))), .int ((oI (pBy κ k)))])))) := hw.2.2.2.2.1
theorem w_mlands {G : jd_G} {γ : ll_B} {κ : ll_K} {μ : ll_U} {h : jd_H} (hw : WM G γ κ μ h) : h (21, 1) = some (γ 0 1, .inl (.inl (G.2.1 5, 6, .inr (.inr (.inr (.inr (fun k => some (γ 1 k)))))))) := hw.2.2.2.2.2.1
theorem w_mmore {G : jd_G} {γ : ll_B} {κ : ll_K} {μ : ll_U} {h : jd_H} (hw : WM G γ κ μ h) : h (21, 6) = some (γ 0 6, .inl (.inl (G.2.1 1, 776, .inl (fun k => μ.1 1 k)))) := hw.2.2.2.2.2.2.1
theorem w_mgates {G : jd_G} {γ : ll_B} {κ : ll_K} {μ : ll_U} {h : jd_H} (hw : WM G γ κ μ h) : (∃ mc, h (22, 1) = some (γ 0 2, .inr (mc, nG κ, γ 2))) := hw.2.2.2.2.2.2.2.1
theorem w_msleepers {G : jd_G} {γ : ll_B} {κ : ll_K} {μ : ll_U} {h : jd_H} (hw : WM G γ κ μ h) : (∃ mc, h (22, 2) = some (γ 0 3, .inr (mc, nS κ, γ 5))) := hw.2.2.2.2.2.2.2.2.1
theorem w_mparts {G : jd_G} {γ : ll_B} {κ : ll_K} {μ : ll_U} {h : jd_H} (hw : WM G γ κ μ h) : (∃ mc, h (22, 3) = some (γ 0 4, .inr (mc, nP κ, γ 6))) := hw.2.2.2.2.2.2.2.2.2.1
theorem w_mhidings {G : jd_G} {γ : ll_B} {κ : ll_K} {μ : ll_U} {h : jd_H} (hw : WM G γ κ μ h) : (∃ mc, h (22, 4) = some (γ 0 5, .inr (mc, 3 * (hids κ).length, fun j => jd_bx G (hidN κ j)))) := hw.2.2.2.2.2.2.2.2.2.2.1
theorem w_mqueue {G : jd_G} {γ : ll_B} {κ : ll_K} {μ : ll_U} {h : jd_H} (hw : WM G γ κ μ h) : (∀ k, k < nG κ → ∃ mc, h (25, k) = some (γ 3 k, .inr (mc, (gQue κ k).length, fun j => jd_bx G ((gQue κ k).getD j 12)))) := hw.2.2.2.2.2.2.2.2.2.2.2.1
theorem w_mrev {G : jd_G} {γ : ll_B} {κ : ll_K} {μ : ll_U} {h : jd_H} (hw : WM G γ κ μ h) : (∀ k, k < nG κ → h (26, k) = some (γ 4 k, .inl (.inl (G.2.1 1, 97, .inl (fun v => jd_b (gRev κ k v = true)))))) := hw.2.2.2.2.2.2.2.2.2.2.2.2.1
theorem w_mdecl {G : jd_G} {γ : ll_B} {κ : ll_K} {μ : ll_U} {h : jd_H} (hw : WM G γ κ μ h) : (∀ k, k < nS κ → sRest κ k = 1 → μ.1 2 k = sDecl κ k) := hw.2.2.2.2.2.2.2.2.2.2.2.2.2.1
theorem w_mpass {G : jd_G} {γ : ll_B} {κ : ll_K} {μ : ll_U} {h : jd_H} (hw : WM G γ κ μ h) : (∀ k, k < nS κ → ∀ q, sPass κ k = some q → μ.1 3 k = nI q.1 ∧ μ.1 4 k = nI q.2.1) := hw.2.2.2.2.2.2.2.2.2.2.2.2.2.2.1
theorem w_mfree {G : jd_G} {γ : ll_B} {κ : ll_K} {μ : ll_U} {h : jd_H} (hw : WM G γ κ μ h) : (∀ k, (nG κ ≤ k → h (24, k) = none ∧ h (25, k) = none ∧ h (26, k) = none) ∧ (nS κ ≤ k → h (27, k) = none) ∧ (nP κ ≤ k → h (30, k) = none)) := hw.2.2.2.2.2.2.2.2.2.2.2.2.2.2.2
section WR
variable {G : jd_G} {M : jd_M} {d cb sb pc : Nat} {ls : List (Option Value)} {st : List Value} {h : jd_H} {Q : Option Value → jd_H → Prop} {X : String → jd_H → Prop}
theorem jd_acmpR_eq {i j : Nat} {off : Int} {tgt : Nat} (dc : decode M.2.2.1 pc = .ok (.if_acmp .eq off, 3)) (ht : (pc : Int) + off = (tgt : Int)) (hi : i < 3) (hj : j < 3) (kt : i = j → jd_W G M d cb sb tgt ls st h Q X) (kf : ¬ i = j → jd_W G M d cb sb (pc + 3) ls st h Q X) : jd_W G M d cb sb pc ls (.ref (jd_rA G j) :: .ref (jd_rA G i) :: st) h Q X := by
  intro p l e R s m args below meth c H locs cells slots la C h1 h2 hP hS hl
  have hC := C.2.2.2.2.2.2.2.2.1.2.1
  have hinj := hC.1.2 i j hi hj
  refine jd_acmp_eq dc ht (fun z => kt ?_) (fun z => kf ?_) p l e R s m args below meth c H locs cells slots la C h1 h2 hP hS hl
  · exact hinj z
  · exact fun e => z (by rw [e])
theorem jd_acmpR_ne {i j : Nat} {off : Int} {tgt : Nat} (dc : decode M.2.2.1 pc = .ok (.if_acmp .ne off, 3)) (ht : (pc : Int) + off = (tgt : Int)) (hi : i < 3) (hj : j < 3) (kt : ¬ i = j → jd_W G M d cb sb tgt ls st h Q X) (kf : i = j → jd_W G M d cb sb (pc + 3) ls st h Q X) : jd_W G M d cb sb pc ls (.ref (jd_rA G j) :: .ref (jd_rA G i) :: st) h Q X := by
  intro p l e R s m args below meth c H locs cells slots la C h1 h2 hP hS hl
  have hC := C.2.2.2.2.2.2.2.2.1.2.1
  have hinj := hC.1.2 i j hi hj
  refine jd_acmp_ne dc ht (fun z => kt ?_) (fun z => kf ?_) p l e R s m args below meth c H locs cells slots la C h1 h2 hP hS hl
  · exact fun e => z (by rw [e])
  · exact hinj z
theorem jd_acmpF_eq {i j : Nat} {off : Int} {tgt : Nat} (dc : decode M.2.2.1 pc = .ok (.if_acmp .eq off, 3)) (ht : (pc : Int) + off = (tgt : Int)) (hi : i < 6) (hj : j < 6) (kt : i = j → jd_W G M d cb sb tgt ls st h Q X) (kf : ¬ i = j → jd_W G M d cb sb (pc + 3) ls st h Q X) : jd_W G M d cb sb pc ls (.ref (jd_fA G j) :: .ref (jd_fA G i) :: st) h Q X := by
  intro p l e R s m args below meth c H locs cells slots la C h1 h2 hP hS hl
  have hC := C.2.2.2.2.2.2.2.2.1.2.1
  have hinj := hC.2.1.2 i j hi hj
  refine jd_acmp_eq dc ht (fun z => kt ?_) (fun z => kf ?_) p l e R s m args below meth c H locs cells slots la C h1 h2 hP hS hl
  · exact hinj z
  · exact fun e => z (by rw [e])
theorem jd_acmpF_ne {i j : Nat} {off : Int} {tgt : Nat} (dc : decode M.2.2.1 pc = .ok (.if_acmp .ne off, 3)) (ht : (pc : Int) + off = (tgt : Int)) (hi : i < 6) (hj : j < 6) (kt : ¬ i = j → jd_W G M d cb sb tgt ls st h Q X) (kf : i = j → jd_W G M d cb sb (pc + 3) ls st h Q X) : jd_W G M d cb sb pc ls (.ref (jd_fA G j) :: .ref (jd_fA G i) :: st) h Q X := by
  intro p l e R s m args below meth c H locs cells slots la C h1 h2 hP hS hl
  have hC := C.2.2.2.2.2.2.2.2.1.2.1
  have hinj := hC.2.1.2 i j hi hj
  refine jd_acmp_ne dc ht (fun z => kt ?_) (fun z => kf ?_) p l e R s m args below meth c H locs cells slots la C h1 h2 hP hS hl
  · exact fun e => z (by rw [e])
  · exact hinj z
theorem jd_acmpI_eq {f i j a b : Nat} {x y : jd_E} {off : Int} {tgt : Nat} (hi : h (f, i) = some (a, x)) (hj : h (f, j) = some (b, y)) (dc : decode M.2.2.1 pc = .ok (.if_acmp .eq off, 3)) (ht : (pc : Int) + off = (tgt : Int)) (kt : i = j → jd_W G M d cb sb tgt ls st h Q X) (kf : ¬ i = j → jd_W G M d cb sb (pc + 3) ls st h Q X) : jd_W G M d cb sb pc ls (.ref b :: .ref a :: st) h Q X := by
  intro p l e R s m args below meth c H locs cells slots la C h1 h2 hP hS hl
  have e1 : a = b → i = j := fun z => by subst z; exact congrArg Prod.snd (hP.inj hi hj)
  have e2 : i = j → a = b := fun z => by subst z; rw [hi] at hj; cases hj; rfl
  refine jd_acmp_eq dc ht (fun z => kt ?_) (fun z => kf ?_) p l e R s m args below meth c H locs cells slots la C h1 h2 hP hS hl
  · exact e1 z
  · exact fun w => z (e2 w)
theorem jd_acmpI_ne {f i j a b : Nat} {x y : jd_E} {off : Int} {tgt : Nat} (hi : h (f, i) = some (a, x)) (hj : h (f, j) = some (b, y)) (dc : decode M.2.2.1 pc = .ok (.if_acmp .ne off, 3)) (ht : (pc : Int) + off = (tgt : Int)) (kt : ¬ i = j → jd_W G M d cb sb tgt ls st h Q X) (kf : i = j → jd_W G M d cb sb (pc + 3) ls st h Q X) : jd_W G M d cb sb pc ls (.ref b :: .ref a :: st) h Q X := by
  intro p l e R s m args below meth c H locs cells slots la C h1 h2 hP hS hl
  have e1 : a = b → i = j := fun z => by subst z; exact congrArg Prod.snd (hP.inj hi hj)
  have e2 : i = j → a = b := fun z => by subst z; rw [hi] at hj; cases hj; rfl
  refine jd_acmp_ne dc ht (fun z => kt ?_) (fun z => kf ?_) p l e R s m args below meth c H locs cells slots la C h1 h2 hP hS hl
  · exact fun w => z (e2 w)
  · exact e1 z
theorem jd_ocmp_eq {o : Option Nat} {b : Nat} {off : Int} {tgt : Nat} (dc : decode M.2.2.1 pc = .ok (.if_icmp .eq off, 3)) (ht : (pc : Int) + off = (tgt : Int)) (ho : ∀ j, o = some j → j < 2 ^ 31) (hb : b < 2 ^ 31) (kt : o = some b → jd_W G M d cb sb tgt ls st h Q X) (kf : ¬ o = some b → jd_W G M d cb sb (pc + 3) ls st h Q X) : jd_W G M d cb sb pc ls (.int (nI b) :: .int (oI o) :: st) h Q X :=
  jd_icmp_eq dc ht (fun z => kt (((oI_nI ho hb)).mp z)) (fun z => kf (fun w => z (((oI_nI ho hb)).mpr w)))
theorem jd_ocmpN_eq {o : Option Nat} {off : Int} {tgt : Nat} (dc : decode M.2.2.1 pc = .ok (.if_icmp .eq off, 3)) (ht : (pc : Int) + off = (tgt : Int)) (ho : ∀ j, o = some j → j < 2 ^ 31) (kt : o = none → jd_W G M d cb sb tgt ls st h Q X) (kf : ¬ o = none → jd_W G M d cb sb (pc + 3) ls st h Q X) : jd_W G M d cb sb pc ls (.int (-1) :: .int (oI o) :: st) h Q X :=
  jd_icmp_eq dc ht (fun z => kt (((oI_m1 ho)).mp z)) (fun z => kf (fun w => z (((oI_m1 ho)).mpr w)))
theorem jd_ocmp_ne {o : Option Nat} {b : Nat} {off : Int} {tgt : Nat} (dc : decode M.2.2.1 pc = .ok (.if_icmp .ne off, 3)) (ht : (pc : Int) + off = (tgt : Int)) (ho : ∀ j, o = some j → j < 2 ^ 31) (hb : b < 2 ^ 31) (kt : ¬ o = some b → jd_W G M d cb sb tgt ls st h Q X) (kf : o = some b → jd_W G M d cb sb (pc + 3) ls st h Q X) : jd_W G M d cb sb pc ls (.int (nI b) :: .int (oI o) :: st) h Q X :=
  jd_icmp_ne dc ht (fun z => kt (fun w => z (((oI_nI ho hb)).mpr w))) (fun z => kf (((oI_nI ho hb)).mp z))
theorem jd_ocmpN_ne {o : Option Nat} {off : Int} {tgt : Nat} (dc : decode M.2.2.1 pc = .ok (.if_icmp .ne off, 3)) (ht : (pc : Int) + off = (tgt : Int)) (ho : ∀ j, o = some j → j < 2 ^ 31) (kt : ¬ o = none → jd_W G M d cb sb tgt ls st h Q X) (kf : o = none → jd_W G M d cb sb (pc + 3) ls st h Q X) : jd_W G M d cb sb pc ls (.int (-1) :: .int (oI o) :: st) h Q X :=
  jd_icmp_ne dc ht (fun z => kt (fun w => z (((oI_m1 ho)).mpr w))) (fun z => kf (((oI_m1 ho)).mp z))
end WR
