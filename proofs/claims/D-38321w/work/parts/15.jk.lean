/-! ===== jk: contracts, calls, throws ===== -/
theorem jd_blind {G : jd_G} {As : List Value} {h : jd_H} : FrameBlind (va_Pc As (fun U => jd_GU G U ∧ jd_Hp G h U.heap)) := fun _ _ _ _ hp => ⟨hp.1, hp.2.1.calling, hp.2.2⟩
section JK
variable {G : jd_G} {M M' : jd_M} {d d' cb cb' sb sb' pc idx : Nat} {ls ls' : List (Option Value)} {st rest As : List Value} {h : jd_H} {Q Q' : Option Value → jd_H → Prop} {X X' : String → jd_H → Prop}
/-- a contract of a method without handlers -/
theorem jd_ct {args : List Value} (hh : M.2.2.2.2.2 = []) (ho : M.2.1.cls = M.1) (hy : plainName M.2.1.cls = true) (hle : (lg_sl args).length ≤ M.2.2.2.1) (hls : jd_ent args M.2.2.2.1 = ls) (k : jd_W G M d cb sb 0 ls [] h Q X) : jd_Ct G M d cb sb args h Q X := by
  intro l hl
  have hws : jd_ws M = ws_ M.2.1 M.2.2.1 M.2.2.2.1 M.2.2.2.2.1 := by unfold jd_ws; rw [hh]
  rw [hws]
  refine vx_ofW (cc := M.2.2.1) (maxL := M.2.2.2.1) (ret := M.2.2.2.2.1) hy rfl ?_
  intro p e s m args' below meth c s₁ B hml ht hv
  obtain ⟨rfl, hU, hP⟩ := hv
  have hts := atoms_spec B.pre
  rw [lg_entry_eq]
  have hen := lv_entry args hle
  refine k p l e _ s m args.toArray below meth c s.heap [] 0 0 _ ⟨B.exec, B.bytes, hml, B.returns, B.notSynchronized, (name_of_methodNamed B.named B.method).1, ?_, fun w hw => hts w (List.mem_cons_of_mem _ hw), hU, Nat.le_refl _, Nat.le_refl _, ?_, hl⟩ (by show 0 + cb ≤ cb; omega) (by show 0 + sb ≤ sb; omega) hP va_S.rf ⟨hen.1, hen.2.1, fun q hq => hen.2.2 q ?_⟩
  · rw [← ho]; exact findClass_of_methodNamed B.named
  · rw [hh]
    cases hc : c.exceptionTable.toList with
    | nil => rfl
    | cons x r => exact absurd (ht x (by rw [hc]; exact List.mem_cons_self)) id
  · subst hls
    exact jd_ent_mem q _ (fun x hx => List.eq_of_mem_replicate hx) args 0 hq
/-- a contract of a method with handlers -/
theorem jd_ctH {args : List Value} {x : Nat × Nat × Nat × Nat} {r : List (Nat × Nat × Nat × Nat)} (hh : M.2.2.2.2.2 = x :: r) (ho : M.2.1.cls = M.1) (hy : plainName M.2.1.cls = true) (hle : (lg_sl args).length ≤ M.2.2.2.1) (hls : jd_ent args M.2.2.2.1 = ls) (k : jd_W G M d cb sb 0 ls [] h Q X) : jd_Ct G M d cb sb args h Q X := by
  intro l hl
  have hws : jd_ws M = wsW_ M.2.1 M.2.2.1 M.2.2.2.1 M.2.2.2.2.1 M.2.2.2.2.2 := by unfold jd_ws; rw [hh]
  rw [hws]
  refine vx_ofWH (cc := M.2.2.1) (maxL := M.2.2.2.1) (ret := M.2.2.2.2.1) (hh := M.2.2.2.2.2) hy rfl ?_
  intro p e s m args' below meth c s₁ B hml hv
  obtain ⟨rfl, hU, hP⟩ := hv
  have hts := atoms_spec B.pre
  rw [lg_entry_eq]
  have hen := lv_entry args hle
  refine k p l e _ s m args.toArray below meth c s.heap [] 0 0 _ ⟨B.exec, B.bytes, hml, B.returns, B.notSynchronized, (name_of_methodNamed B.named B.method).1, ?_, fun w hw => hts w (List.mem_cons_of_mem _ hw), hU, Nat.le_refl _, Nat.le_refl _, ?_, hl⟩ (by show 0 + cb ≤ cb; omega) (by show 0 + sb ≤ sb; omega) hP va_S.rf ⟨hen.1, hen.2.1, fun q hq => hen.2.2 q ?_⟩
  · rw [← ho]; exact findClass_of_methodNamed B.named
  · exact vx_table (x := M.2.1) B (hts _ List.mem_cons_self)
  · subst hls
    exact jd_ent_mem q _ (fun x hx => List.eq_of_mem_replicate hx) args 0 hq
/-- behind a call -/
theorem jd_fin {p : Program} {l : Launch} {e : Env} {R : Room} {s : State} {m : MethodId} {args a' : Array Value} {below : List Frame} {meth : Method} {c : Code} {H : Heap} {locs : List Loc} {cells slots : Nat} {la : Array Slot} {st0 : List Value}
    (C : jd_Cx G M d p l R s m args meth c) (h1 : cells + cb ≤ R.cells) (h2 : slots + sb ≤ R.slots) (hS : va_S (jd_A G) s.heap H locs) (hl : lv_has la M.2.2.2.1 (jd_L ls 0)) (hcb : cb' ≤ cb) (hsb : sb' ≤ sb)
    (hr : vx_Run p l e R s m args below meth c H locs cells slots cb' sb' (F0 m pc la st0) rest (jd_Qc G Q' a') (jd_XC G X') (jd_A G))
    (kk : ∀ v h', Q' v h' → jd_W G M d (cb - cb') (sb - sb') (pc + 3) ls (v.toList ++ rest) h' Q X) (kx : ∀ E h', X' E h' → jd_X G M d (cb - cb') (sb - sb') pc ls E h' Q X) :
    W p l e R s m args below meth c H locs cells slots (vx_MQ below (jd_Qc G Q) (jd_XC G X) args s R.cells R.slots (jd_A G)) (F0 m pc la st0) := by
  intro T hT Y
  rcases hr T hT Y with ⟨v, st₀, t, T', L, h0, Y', hL, e1, e2, ⟨v', h', ev, hq, hP', hF⟩, sx⟩ | ⟨q, st₀, t, T', L, E, ce, h0, Y', hL, e1, e2, ⟨h', hx, hP', hF⟩, hce, hcv, hcl, sx⟩
  · cases ev
    obtain ⟨k1, k2, k3⟩ := vx_keep h0 e1 hS (fun q _ h => h) (fun q h => h) hL hF
    obtain ⟨t2, a1, b1⟩ := kk v h' hq p l e R s m args below meth c T'.heap (locs ++ L) (cells + cb') (slots + sb') la C (by omega) (by omega) (by rw [e1]; exact hP') k3 hl T' rfl Y'
    exact ⟨t2, sx t2 a1, b1⟩
  · obtain ⟨k1, k2, k3⟩ := vx_keep h0 e1 hS (fun q _ h => h) (fun q h => h) hL hF
    obtain ⟨t2, a1, b1⟩ := kx E h' hx p l e R s m args below meth c T'.heap (locs ++ L) (cells + cb') (slots + sb') la rest q ce C (by omega) (by omega) (by rw [e1]; exact hP') k3 hl (by rw [e1]; exact hce) hcv hcl T' rfl Y'
    exact ⟨t2, sx.trans a1, b1⟩
theorem jd_fin5 {p : Program} {l : Launch} {e : Env} {R : Room} {s : State} {m : MethodId} {args a' : Array Value} {below : List Frame} {meth : Method} {c : Code} {H : Heap} {locs : List Loc} {cells slots : Nat} {la : Array Slot} {st0 : List Value}
    (C : jd_Cx G M d p l R s m args meth c) (h1 : cells + cb ≤ R.cells) (h2 : slots + sb ≤ R.slots) (hS : va_S (jd_A G) s.heap H locs) (hl : lv_has la M.2.2.2.1 (jd_L ls 0)) (hcb : cb' ≤ cb) (hsb : sb' ≤ sb)
    (hr : vx_Run5 p l e R s m args below meth c H locs cells slots cb' sb' (F0 m pc la st0) rest (jd_Qc G Q' a') (jd_XC G X') (jd_A G))
    (kk : ∀ v h', Q' v h' → jd_W G M d (cb - cb') (sb - sb') (pc + 5) ls (v.toList ++ rest) h' Q X) (kx : ∀ E h', X' E h' → jd_X G M d (cb - cb') (sb - sb') pc ls E h' Q X) :
    W p l e R s m args below meth c H locs cells slots (vx_MQ below (jd_Qc G Q) (jd_XC G X) args s R.cells R.slots (jd_A G)) (F0 m pc la st0) := by
  intro T hT Y
  rcases hr T hT Y with ⟨v, st₀, t, T', L, h0, Y', hL, e1, e2, ⟨v', h', ev, hq, hP', hF⟩, sx⟩ | ⟨q, st₀, t, T', L, E, ce, h0, Y', hL, e1, e2, ⟨h', hx, hP', hF⟩, hce, hcv, hcl, sx⟩
  · cases ev
    obtain ⟨k1, k2, k3⟩ := vx_keep h0 e1 hS (fun q _ h => h) (fun q h => h) hL hF
    obtain ⟨t2, a1, b1⟩ := kk v h' hq p l e R s m args below meth c T'.heap (locs ++ L) (cells + cb') (slots + sb') la C (by omega) (by omega) (by rw [e1]; exact hP') k3 hl T' rfl Y'
    exact ⟨t2, sx t2 a1, b1⟩
  · obtain ⟨k1, k2, k3⟩ := vx_keep h0 e1 hS (fun q _ h => h) (fun q h => h) hL hF
    obtain ⟨t2, a1, b1⟩ := kx E h' hx p l e R s m args below meth c T'.heap (locs ++ L) (cells + cb') (slots + sb') la rest q ce C (by omega) (by omega) (by rw [e1]; exact hP') k3 hl (by rw [e1]; exact hce) hcv hcl T' rfl Y'
    exact ⟨t2, sx.trans a1, b1⟩
/-- what is asked of a callee's name: no method handle, n parameters -/
abbrev jd_N (y : MethodName) (n : Nat) : Prop := y.cls ≠ "java/lang/invoke/MethodHandle" ∧ y.cls ≠ "java/lang/invoke/VarHandle" ∧ (parseMethodDescriptor y.desc).map (fun d => d.parameters.length) = some n
abbrev jd_B (M' : jd_M) (d d' cb cb' sb sb' : Nat) : Prop := d' + 1 ≤ d ∧ M'.2.2.2.1 ≤ 80 ∧ cb' ≤ cb ∧ sb' ≤ sb
theorem jd_pre {s : State} {H : Heap} {locs : List Loc} {args : List Value} (hG : jd_GU G s) (hS : va_S (jd_A G) s.heap H locs) (hP : jd_Hp G h H) : ∀ U : State, U.heap = H → s.WarmedH U.vm → va_Pc args (fun U => jd_GU G U ∧ jd_Hp G h U.heap) args.toArray U :=
  fun U hU hW => ⟨rfl, hG.warm hW hS hU, by rw [hU]; exact hP⟩
theorem jd_callS (hC : jd_Ct G M' d' cb' sb' As h Q' X') (hh : M'.2.2.2.2.2 = []) (q1 : Cond.methodLink M.1 idx M'.2.1 ∈ lw_all) (q2 : Cond.static M'.2.1 ∈ lw_all) (q3 : Cond.initialized M'.2.1.cls ∈ lw_all) (q4 : Cond.code M'.2.1 M'.2.2.1 M'.2.2.2.1 M'.2.2.2.2.1 ∈ lw_all) {n : Nat} (hn : jd_N M'.2.1 n) (dc : decode M.2.2.1 pc = .ok (.invokestatic idx, 3)) (hlen : As.length = n) (hst : st = As.reverse ++ rest) (hw : (rest.map fun v => v.category).sum ≤ 8) (hb : jd_B M' d d' cb cb' sb sb')
    (kk : ∀ v h', Q' v h' → jd_W G M d (cb - cb') (sb - sb') (pc + 3) ls (v.toList ++ rest) h' Q X) (kx : ∀ E h', X' E h' → jd_X G M d (cb - cb') (sb - sb') pc ls E h' Q X) : jd_W G M d cb sb pc ls st h Q X := by
  intro p l e R s m args below meth c H locs cells slots la C h1 h2 hP hS hl
  obtain ⟨hb1, hb2, hb3, hb4⟩ := hb
  have hts := C.2.2.2.2.2.2.2.1
  have hGU := C.2.2.2.2.2.2.2.2.1
  have hd1 := C.2.2.2.2.2.2.2.2.2.1
  have hd2 := C.2.2.2.2.2.2.2.2.2.2.1
  have hC' := hC l C.2.2.2.2.2.2.2.2.2.2.2.2
  have hws : jd_ws M' = ws_ M'.2.1 M'.2.2.1 M'.2.2.2.1 M'.2.2.2.2.1 := by unfold jd_ws; rw [hh]
  rw [hws] at hC'
  subst hst
  exact jd_fin C h1 h2 hS hl hb3 hb4 (vx_runS ⟨C.1, C.2.1, C.2.2.1, C.2.2.2.2.2.2.1, hts⟩ hC' (va_cwS n hts (lw_S q1 q2 q3 q4) rfl rfl rfl hn ⟨by show d' + 1 ≤ _; omega, by show 8 + (_ + 11) + 100 * d' ≤ _; omega⟩) ⟨jd_blind, jd_pre hGU hS hP⟩ rfl hlen hl.1 rfl (lv_room hw) dc ⟨by omega, by omega⟩) kk kx
theorem jd_callV {a : Nat} {Cn : String} (hC : jd_Ct G M' d' cb' sb' (.ref a :: As) h Q' X') (hv : jd_Rv G h Cn a) (hh : M'.2.2.2.2.2 = []) (q1 : Cond.methodLink M.1 idx M'.2.1 ∈ lw_all) (q2 : Cond.instanceMethod M'.2.1 ∈ lw_all) (q3 : Cond.selects Cn M'.2.1 M'.2.1 ∈ lw_all) (q4 : Cond.initialized Cn ∈ lw_all) (q5 : Cond.code M'.2.1 M'.2.2.1 M'.2.2.2.1 M'.2.2.2.2.1 ∈ lw_all) {n : Nat} (hn : jd_N M'.2.1 n) (dc : decode M.2.2.1 pc = .ok (.invokevirtual idx, 3)) (hcn : M'.2.1.cls = Cn) (hlen : As.length = n) (hst : st = As.reverse ++ .ref a :: rest) (hw : (rest.map fun v => v.category).sum ≤ 8) (hb : jd_B M' d d' cb cb' sb sb')
    (kk : ∀ v h', Q' v h' → jd_W G M d (cb - cb') (sb - sb') (pc + 3) ls (v.toList ++ rest) h' Q X) (kx : ∀ E h', X' E h' → jd_X G M d (cb - cb') (sb - sb') pc ls E h' Q X) : jd_W G M d cb sb pc ls st h Q X := by
  intro p l e R s m args below meth c H locs cells slots la C h1 h2 hP hS hl
  obtain ⟨hb1, hb2, hb3, hb4⟩ := hb
  have hts := C.2.2.2.2.2.2.2.1
  have hGU := C.2.2.2.2.2.2.2.2.1
  have hd1 := C.2.2.2.2.2.2.2.2.2.1
  have hd2 := C.2.2.2.2.2.2.2.2.2.2.1
  have hC' := hC l C.2.2.2.2.2.2.2.2.2.2.2.2
  have hws : jd_ws M' = ws_ M'.2.1 M'.2.2.1 M'.2.2.2.1 M'.2.2.2.2.1 := by unfold jd_ws; rw [hh]
  rw [hws] at hC'
  subst hst
  exact jd_fin C h1 h2 hS hl hb3 hb4 (vx_runV ⟨C.1, C.2.1, C.2.2.1, C.2.2.2.2.2.2.1, hts⟩ hC' (cwV n hts (lw_V q1 q2 q3 q4 q5) rfl rfl rfl ⟨hcn, hn⟩ ⟨by show d' + 1 ≤ _; omega, by show 8 + (_ + 11) + 100 * d' ≤ _; omega⟩) ⟨jd_blind, hv s H hGU.1 (jd_cs hGU hS) hP, jd_pre hGU hS hP⟩ rfl hlen hl.1 rfl (lv_room hw) dc ⟨by omega, by omega⟩) kk kx
theorem jd_callI {a : Nat} (hC : jd_Ct G M' d' cb' sb' (.ref a :: As) h Q' X') (hh : M'.2.2.2.2 = (none, [])) (hini : M'.2.1.name = "<init>") (q1 : Cond.methodLink M.1 idx M'.2.1 ∈ lw_all) (q2 : Cond.instanceMethod M'.2.1 ∈ lw_all) (q4 : Cond.initialized M'.2.1.cls ∈ lw_all) (q5 : Cond.code M'.2.1 M'.2.2.1 M'.2.2.2.1 none ∈ lw_all) {n : Nat} (hn : jd_N M'.2.1 n) (dc : decode M.2.2.1 pc = .ok (.invokespecial idx, 3)) (hlen : As.length = n) (hst : st = As.reverse ++ .ref a :: rest) (hw : (rest.map fun v => v.category).sum ≤ 8) (hb : jd_B M' d d' cb cb' sb sb')
    (kk : ∀ v h', Q' v h' → jd_W G M d (cb - cb') (sb - sb') (pc + 3) ls (v.toList ++ rest) h' Q X) (kx : ∀ E h', X' E h' → jd_X G M d (cb - cb') (sb - sb') pc ls E h' Q X) : jd_W G M d cb sb pc ls st h Q X := by
  intro p l e R s m args below meth c H locs cells slots la C h1 h2 hP hS hl
  obtain ⟨hb1, hb2, hb3, hb4⟩ := hb
  have hts := C.2.2.2.2.2.2.2.1
  have hGU := C.2.2.2.2.2.2.2.2.1
  have hd1 := C.2.2.2.2.2.2.2.2.2.1
  have hd2 := C.2.2.2.2.2.2.2.2.2.2.1
  have hC' := hC l C.2.2.2.2.2.2.2.2.2.2.2.2
  have hws : jd_ws M' = ws_ M'.2.1 M'.2.2.1 M'.2.2.2.1 none := by unfold jd_ws; rw [hh]
  rw [hws] at hC'
  subst hst
  exact jd_fin C h1 h2 hS hl hb3 hb4 (vx_runI ⟨C.1, C.2.1, C.2.2.1, C.2.2.2.2.2.2.1, hts⟩ hC' (cwI n hts (lw_meth q5) rfl rfl rfl (hts _ q4) (hts _ q1) (hts _ q2) hini hn ⟨by show d' + 1 ≤ _; omega, by show 8 + (_ + 11) + 100 * d' ≤ _; omega⟩) ⟨jd_blind, jd_pre hGU hS hP⟩ rfl hlen hl.1 rfl (lv_room hw) dc ⟨by omega, by omega⟩) kk kx
/-- the private constructor of a nest mate -/
theorem jd_callN {a : Nat} {host : String} (hC : jd_Ct G M' d' cb' sb' (.ref a :: As) h Q' X') (hh : M'.2.2.2.2 = (none, [])) (hini : M'.2.1.name = "<init>") (q1 : Cond.methodLinkNest M.1 idx M'.2.1 host ∈ lw_tbl) (q2 : Cond.instanceMethod M'.2.1 ∈ lw_all) (q4 : Cond.initialized M'.2.1.cls ∈ lw_all) (q5 : Cond.code M'.2.1 M'.2.2.1 M'.2.2.2.1 none ∈ lw_all) {n : Nat} (hn : jd_N M'.2.1 n) (dc : decode M.2.2.1 pc = .ok (.invokespecial idx, 3)) (hlen : As.length = n) (hst : st = As.reverse ++ .ref a :: rest) (hw : (rest.map fun v => v.category).sum ≤ 8) (hb : jd_B M' d d' cb cb' sb sb')
    (kk : ∀ v h', Q' v h' → jd_W G M d (cb - cb') (sb - sb') (pc + 3) ls (v.toList ++ rest) h' Q X) (kx : ∀ E h', X' E h' → jd_X G M d (cb - cb') (sb - sb') pc ls E h' Q X) : jd_W G M d cb sb pc ls st h Q X := by
  intro p l e R s m args below meth c H locs cells slots la C h1 h2 hP hS hl
  obtain ⟨hb1, hb2, hb3, hb4⟩ := hb
  have hts := C.2.2.2.2.2.2.2.1
  have hGU := C.2.2.2.2.2.2.2.2.1
  have hd1 := C.2.2.2.2.2.2.2.2.2.1
  have hd2 := C.2.2.2.2.2.2.2.2.2.2.1
  have hC' := hC l C.2.2.2.2.2.2.2.2.2.2.2.2
  have hws : jd_ws M' = ws_ M'.2.1 M'.2.2.1 M'.2.2.2.1 none := by unfold jd_ws; rw [hh]
  rw [hws] at hC'
  subst hst
  exact jd_fin C h1 h2 hS hl hb3 hb4 (vx_runIN ⟨C.1, C.2.1, C.2.2.1, C.2.2.2.2.2.2.1, hts⟩ hC' ⟨va_cnB n hts (lw_meth q5) rfl rfl rfl (hGU.1.2.1 _ q1 rfl) (hts _ q4) hn ⟨by show d' + 1 ≤ _; omega, by show 8 + (_ + 11) + 100 * d' ≤ _; omega⟩, hini, hts _ q2⟩ ⟨jd_blind, jd_pre hGU hS hP⟩ rfl hlen hl.1 rfl (lv_room hw) dc ⟨by omega, by omega⟩) kk kx
/-- a method that the receiver's class inherits -/
theorem jd_callU {a : Nat} {Cn : String} {x : MethodName} (hC : jd_Ct G M' d' cb' sb' (.ref a :: As) h Q' X') (hv : jd_Rv G h Cn a) (hh : M'.2.2.2.2.2 = []) (q1 : Cond.methodLink M.1 idx x ∈ lw_all) (q2 : Cond.sameMethod x.cls M'.2.1.cls x.name x.desc ∈ lw_all) (q3 : Cond.selects Cn x M'.2.1 ∈ lw_all) (q4 : Cond.instanceMethod M'.2.1 ∈ lw_all) (q6 : Cond.initialized M'.2.1.cls ∈ lw_all) (q5 : Cond.code M'.2.1 M'.2.2.1 M'.2.2.2.1 M'.2.2.2.2.1 ∈ lw_all) {n : Nat} (hn : M'.2.1.cls ≠ "java/lang/invoke/MethodHandle" ∧ M'.2.1.cls ≠ "java/lang/invoke/VarHandle" ∧ (parseMethodDescriptor x.desc).map (fun d => d.parameters.length) = some n) (hyx : M'.2.1 = ⟨M'.2.1.cls, x.name, x.desc⟩) (dc : decode M.2.2.1 pc = .ok (.invokevirtual idx, 3)) (hlen : As.length = n) (hst : st = As.reverse ++ .ref a :: rest) (hw : (rest.map fun v => v.category).sum ≤ 8) (hb : jd_B M' d d' cb cb' sb sb')
    (kk : ∀ v h', Q' v h' → jd_W G M d (cb - cb') (sb - sb') (pc + 3) ls (v.toList ++ rest) h' Q X) (kx : ∀ E h', X' E h' → jd_X G M d (cb - cb') (sb - sb') pc ls E h' Q X) : jd_W G M d cb sb pc ls st h Q X := by
  intro p l e R s m args below meth c H locs cells slots la C h1 h2 hP hS hl
  obtain ⟨hb1, hb2, hb3, hb4⟩ := hb
  have hts := C.2.2.2.2.2.2.2.1
  have hGU := C.2.2.2.2.2.2.2.2.1
  have hd1 := C.2.2.2.2.2.2.2.2.2.1
  have hd2 := C.2.2.2.2.2.2.2.2.2.2.1
  have hC' := hC l C.2.2.2.2.2.2.2.2.2.2.2.2
  have hws : jd_ws M' = ws_ M'.2.1 M'.2.2.1 M'.2.2.2.1 M'.2.2.2.2.1 := by unfold jd_ws; rw [hh]
  rw [hws] at hC'
  subst hst
  have hT : GoodIn lw_all (va_wsU M.1 idx Cn M'.2.1.cls x M'.2.1 (ws_ M'.2.1 M'.2.2.1 M'.2.2.2.1 M'.2.2.2.2.1)) := by
    refine lw_app ?_ (lw_meth q5)
    intro w hw
    simp only [List.mem_cons, List.not_mem_nil, or_false] at hw
    rcases hw with e | e | e | e | e
    · rw [e]; exact q1
    · rw [e]; exact q2
    · rw [e]; exact q3
    · rw [e]; exact q4
    · rw [e]; exact q6
  exact jd_fin C h1 h2 hS hl hb3 hb4 (vx_runU ⟨C.1, C.2.1, C.2.2.1, C.2.2.2.2.2.2.1, hts⟩ hC' (va_cwU n hts hT rfl rfl rfl hyx hn ⟨by show d' + 1 ≤ _; omega, by show 8 + (_ + 11) + 100 * d' ≤ _; omega⟩) ⟨jd_blind, hv s H hGU.1 (jd_cs hGU hS) hP, jd_pre hGU hS hP⟩ rfl hlen hl.1 rfl (lv_room hw) dc ⟨by omega, by omega⟩) kk kx
/-- a method of an interface -/
theorem jd_callF {a count ci : Nat} {Cn : String} {T : u_T} {N : Nat} {x : MethodName} (hC : jd_Ct G M' d' cb' sb' (.ref a :: As) h Q' X') (hv : jd_Rv G h Cn a) (hci : jd_cl[ci]? = some (Cn, T, N)) (hx : x ∈ jd_ifs) (hh : M'.2.2.2.2.2 = []) (q1 : Cond.methodLink M.1 idx x ∈ lw_all) (q2 : Cond.selects Cn x M'.2.1 ∈ lw_all) (q3 : Cond.instanceMethod M'.2.1 ∈ lw_all) (q4 : Cond.initialized M'.2.1.cls ∈ lw_all) (q5 : Cond.code M'.2.1 M'.2.2.1 M'.2.2.2.1 M'.2.2.2.2.1 ∈ lw_all) (q6 : Cond.declares x ∈ lw_tbl) (q7 : Cond.publicMethod M'.2.1 ∈ lw_tbl) (q8 : Cond.unhidden Cn x.name x.desc ∈ lw_tbl) (q9 : Cond.castable Cn x.cls ∈ lw_tbl) {n : Nat} (hn : jd_N x n) (dc : decode M.2.2.1 pc = .ok (.invokeinterface idx count, 5)) (hlen : As.length = n) (hst : st = As.reverse ++ .ref a :: rest) (hw : (rest.map fun v => v.category).sum ≤ 8) (hb : jd_B M' d d' cb cb' sb sb')
    (kk : ∀ v h', Q' v h' → jd_W G M d (cb - cb') (sb - sb') (pc + 5) ls (v.toList ++ rest) h' Q X) (kx : ∀ E h', X' E h' → jd_X G M d (cb - cb') (sb - sb') pc ls E h' Q X) : jd_W G M d cb sb pc ls st h Q X := by
  intro p l e R s m args below meth c H locs cells slots la C h1 h2 hP hS hl
  obtain ⟨hb1, hb2, hb3, hb4⟩ := hb
  have hts := C.2.2.2.2.2.2.2.1
  have hGU := C.2.2.2.2.2.2.2.2.1
  have hd1 := C.2.2.2.2.2.2.2.2.2.1
  have hd2 := C.2.2.2.2.2.2.2.2.2.2.1
  have hC' := hC l C.2.2.2.2.2.2.2.2.2.2.2.2
  have hws : jd_ws M' = ws_ M'.2.1 M'.2.2.1 M'.2.2.2.1 M'.2.2.2.2.1 := by unfold jd_ws; rw [hh]
  rw [hws] at hC'
  subst hst
  have hT : GoodIn lw_all (va_wsF M.1 idx Cn x M'.2.1 (ws_ M'.2.1 M'.2.2.1 M'.2.2.2.1 M'.2.2.2.2.1)) := by
    refine lw_app ?_ (lw_meth q5)
    intro w hw
    simp only [List.mem_cons, List.not_mem_nil, or_false] at hw
    rcases hw with e | e | e | e
    · rw [e]; exact q1
    · rw [e]; exact q2
    · rw [e]; exact q3
    · rw [e]; exact q4
  have hw2 := hGU.1.2.1
  have hF : va_Fw Cn x M'.2.1 s := ⟨hw2 _ q6 rfl, hGU.1.2.2.1 x hx, hw2 _ q7 rfl, hw2 _ q8 rfl, hw2 _ q9 rfl⟩
  exact jd_fin5 C h1 h2 hS hl hb3 hb4 (vx_runF (hGU.1.1.1 ci _ hci).2 ⟨C.1, C.2.1, C.2.2.1, C.2.2.2.2.2.2.1, hts⟩ hC' (va_cwF n hts hT rfl rfl rfl hF hn ⟨by show d' + 1 ≤ _; omega, by show 8 + (_ + 11) + 100 * d' ≤ _; omega⟩) ⟨jd_blind, hv s H hGU.1 (jd_cs hGU hS) hP, jd_pre hGU hS hP⟩ rfl hlen hl.1 rfl (lv_room hw) dc ⟨by omega, by omega⟩) kk kx
/-- an exception that no handler takes -/
theorem jd_xout {E : String} (hh : M.2.2.2.2.2 = []) (hx : X E h) : jd_X G M d cb sb pc ls E h Q X := by
  intro p l e R s m args below meth c H locs cells slots la rest q ce C h1 h2 hP hS hl hce hcv hcl
  have ht := C.2.2.2.2.2.2.2.2.2.2.2.1
  rw [hh] at ht
  exact vx_out (fun x hx => by rw [ht] at hx; cases hx) C.2.2.2.2.1 hce hcv hcl (fun t h9 hal => ⟨h, hx, by rw [h9]; exact hP, hS.F h9⟩) hS.2.2 (by omega) (by omega)
theorem jd_xno {E : String} (hf : False) : jd_X G M d cb sb pc ls E h Q X := hf.elim
/-- a callee that doesn't throw -/
theorem jd_nox : ∀ E h', jd_no E h' → jd_X G M d (cb - cb') (sb - sb') pc ls E h' Q X := fun _ _ hf => hf.elim
/-- new X(), thrown -/
theorem jd_throw0 {cls : String} {ik ic : Nat} (hh : M.2.2.2.2.2 = []) (hcls : Bundle.fit cls = true) (hk : Cond.classLink M.1 ik cls ∈ lw_all) (hini : Cond.initialized cls ∈ lw_all)
    (hat : ∀ w ∈ vx_at0 M.1 ic cls ["java/lang/RuntimeException", "java/lang/Exception"], w ∈ lw_all ∨ (w ∈ lw_tbl ∧ jd_nw w = true))
    (hot : ∀ w ∈ vx_at0 M.1 ic cls ["java/lang/RuntimeException", "java/lang/Exception"], vx_ot w = true)
    (d0 : decode M.2.2.1 pc = .ok (.new ik, 3)) (d3 : decode M.2.2.1 (pc + 3) = .ok (.dup, 1)) (d4 : decode M.2.2.1 (pc + 4) = .ok (.invokespecial ic, 3)) (d7 : decode M.2.2.1 (pc + 7) = .ok (.athrow, 1))
    (hd : 10 ≤ d) (hcb : 1 ≤ cb) (hsb : 6 ≤ sb) (hx : X cls h) : jd_W G M d cb sb pc ls [] h Q X := by
  intro p l e R s m args below meth c H locs cells slots la C h1 h2 hP hS hl
  have hts := C.2.2.2.2.2.2.2.1
  have hGU := C.2.2.2.2.2.2.2.2.1
  have hd1 := C.2.2.2.2.2.2.2.2.2.1
  have hd2 := C.2.2.2.2.2.2.2.2.2.2.1
  have ht := C.2.2.2.2.2.2.2.2.2.2.2.1
  rw [hh] at ht
  have hst : l.stackTraces = false := by
    show (!l.flags.contains noTraceFlag) = false
    rw [C.2.2.2.2.2.2.2.2.2.2.2.2]
    decide
  have hot1 : vx_ot (Cond.classLink M.1 ik cls) = true := rfl
  have hot2 : vx_ot (Cond.initialized cls) = true := rfl
  refine vx_throw0 (names := ["java/lang/RuntimeException", "java/lang/Exception"]) C.1 C.2.1 hst C.2.2.2.2.2.2.1 hcls (by decide) (hts _ hk) (hts _ hini) (fun w hw => ?_) (List.forall_mem_cons.mpr ⟨hot1, List.forall_mem_cons.mpr ⟨hot2, hot⟩⟩) (hGU.2.1.2.2.2.2.2.2.2.1.1) (hGU.2.1.2.2.2.2.2.2.2.1.2) hS (hl.1.trans C.2.2.1.symm) d0 d3 d4 d7 (fun x hx => by rw [ht] at hx; cases hx)
    (by show 2 + 3 < _; omega) (by show 0 + (13 * (2 + 1) + 42) ≤ _; omega) (by omega) (by omega) C.2.2.2.2.1 (fun t hal hz hq => ⟨h, hx, hP.kept hq, ?_⟩) hS.2.2 (by omega) (by omega)
  · rcases hat w hw with h9 | ⟨h9, h10⟩
    · exact hts _ h9
    · have := hGU.1.2.1 _ h9 h10
      have h11 := hot w hw
      simp only [vx_ot, Bool.or_eq_true] at h11
      rcases h11 with h11 | h11
      · exact va_tabs h11 rfl this
      · exact hts _ (lw_g h9 h11)
  · exact ⟨Nat.le_trans hS.1 hz, fun q g1 g2 => (hq q (Nat.lt_of_lt_of_le g1 hS.1)).trans (hS.2.1 q g1 g2)⟩
end JK
