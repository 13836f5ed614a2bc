/-! ===== jw: what holds all through a run, and the judgement ===== -/
abbrev jd_k (G : jd_G) : Nat → Nat := G.2.2.2
/-- constants: 0 the empty array of a list, 1 Optional.EMPTY, 2 the cache of Integers, 3 DigitTens, 4 DigitOnes, 5 the mirror of Object[], 6 the script, 7 its length, 10.. Rest, 20.. Fate, 100.. the boxes, 400.. the four Strings, 410.. their arrays, 1000.. the script's ints -/
def jd_scr (G : jd_G) : Nat → Int32 := fun j => Int32.ofNat (jd_k G (1000 + j))
def jd_rA (G : jd_G) : Nat → Nat := fun i => jd_k G (10 + i)
def jd_fA (G : jd_G) : Nat → Nat := fun i => jd_k G (20 + i)
def jd_bA (G : jd_G) : Nat → Nat := fun i => jd_k G (100 + i)
def jd_sA (G : jd_G) : Nat → Nat := fun i => jd_k G (400 + i)
def jd_sV (G : jd_G) : Nat → Nat := fun i => jd_k G (410 + i)
def jd_tens : Nat → Value := fun k => .int (nI (48 + k / 10))
def jd_ones : Nat → Value := fun k => .int (nI (48 + k % 10))
def jd_Cs (G : jd_G) (U : State) (H : Heap) : Prop :=
  va_En "Lullabygate$Rest" "LLullabygate$Rest;" ["RESTING", "QUEUED", "AWAKE"] [("java/lang/Enum", "ordinal", "I", [0, 1, 2])] (jd_rA G) (jd_A G) U H ∧
  va_En "Lullabygate$Fate" "LLullabygate$Fate;" ["UNTOLD", "DECLARED", "EXEMPT", "CAUGHT", "SLIPPED", "TURNED"] [("java/lang/Enum", "ordinal", "I", [0, 1, 2, 3, 4, 5])] (jd_fA G) (jd_A G) U H ∧
  (va_Z "java/util/Optional" "EMPTY" "Ljava/util/Optional;" (.ref (jd_k G 1)) (jd_A G) U H ∧ va_O "java/util/Optional" (jd_k G 1) (jd_A G) U H ∧ va_OF "java/util/Optional" "value" "Ljava/lang/Object;" .null (jd_k G 1) (jd_A G) U H) ∧
  (va_Z "java/util/ArrayList" "DEFAULTCAPACITY_EMPTY_ELEMENTDATA" "[Ljava/lang/Object;" (.ref (jd_k G 0)) (jd_A G) U H ∧ va_T (.object "java/lang/Object") (jd_k G 0) 0 (fun _ => .null) (jd_A G) U H) ∧
  (va_Z "java/lang/Integer$IntegerCache" "high" "I" (.int 127) (jd_A G) U H ∧ va_Z "java/lang/Integer$IntegerCache" "cache" "[Ljava/lang/Integer;" (.ref (jd_k G 2)) (jd_A G) U H ∧ va_T (.object "java/lang/Integer") (jd_k G 2) 256 (fun k => .ref (jd_bA G k)) (jd_A G) U H ∧ vb_C (jd_bA G) (jd_A G) U H) ∧
  (va_Z "java/lang/String" "COMPACT_STRINGS" "Z" (.int 1) (jd_A G) U H ∧ va_Z "java/lang/Integer" "DigitTens" "[B" (.ref (jd_k G 3)) (jd_A G) U H ∧ va_T .byte (jd_k G 3) 100 jd_tens (jd_A G) U H ∧ va_Z "java/lang/Integer" "DigitOnes" "[B" (.ref (jd_k G 4)) (jd_A G) U H ∧ va_T .byte (jd_k G 4) 100 jd_ones (jd_A G) U H) ∧
  vk_S 4 [0, 1, 1, 1] [[], [32], [98], [45]] (jd_sA G) (jd_sV G) (jd_A G) U H ∧
  (vx_Zq Bundle.tN "UNASSIGNED_STACK" Bundle.steD (jd_A G) U H ∧ vx_Zq Bundle.tN "SUPPRESSED_SENTINEL" Bundle.listD (jd_A G) U H) ∧
  (va_X (jd_k G 6) (jd_k G 7) (jd_scr G) U H ∧ ¬ jd_A G (jd_k G 6))
def jd_Rs (G : jd_G) (U : State) : Prop :=
  vk_R "Lullabygate" 455 "" (jd_sA G 0) U ∧ vk_R "Lullabygate" 457 " " (jd_sA G 1) U ∧ vk_R "Lullabygate" 470 "b" (jd_sA G 2) U ∧ vk_R "Lullabygate" 475 "-" (jd_sA G 3) U ∧
  vk_R "LullabygateModel" 302 "" (jd_sA G 0) U ∧ vk_R "LullabygateModel" 307 " " (jd_sA G 1) U ∧ vk_R "LullabygateModel" 316 "b" (jd_sA G 2) U ∧ vk_R "LullabygateModel" 318 "-" (jd_sA G 3) U ∧
  (va_Nc "java/lang/IllegalArgumentException" "java/lang/IndexOutOfBoundsException" U ∧ va_Nc "java/lang/IllegalStateException" "java/lang/IndexOutOfBoundsException" U ∧ va_Nc "java/lang/IllegalStateException" "java/lang/IllegalArgumentException" U)
/-- the words that don't ride in the lists, but stay -/
def jd_nw : Cond → Bool
  | .fieldLinkNest .. => true
  | .methodLinkNest .. => true
  | .castable .. => true
  | .declares .. => true
  | .arrayOver (.object _) => true
  | .arrayOver (.array _) => true
  | .publicMethod .. => true
  | .unhidden .. => true
  | _ => false
/-- the interfaces' methods that are called -/
def jd_ifs : List MethodName := [⟨"java/util/List", "add", "(Ljava/lang/Object;)Z"⟩, ⟨"java/util/List", "get", "(I)Ljava/lang/Object;"⟩, ⟨"java/util/List", "size", "()I"⟩, ⟨"java/util/List", "isEmpty", "()Z"⟩, ⟨"java/util/List", "remove", "(I)Ljava/lang/Object;"⟩, ⟨"java/util/Iterator", "hasNext", "()Z"⟩, ⟨"java/util/Iterator", "next", "()Ljava/lang/Object;"⟩]
def jd_Wd (G : jd_G) (U : State) : Prop :=
  va_K G.1 jd_cl (jd_tys G) U ∧ (∀ w ∈ lw_tbl, jd_nw w = true → va_Nw w U) ∧ (∀ x ∈ jd_ifs, va_Nw (.interfaceMethod x.cls x.cls x.name x.desc) U) ∧ (∃ mi, mi = jd_k G 5 ∧ va_Mi "[Ljava/lang/Object;" mi U) ∧ jd_Rs G U
def jd_GU (G : jd_G) (U : State) : Prop := jd_Wd G U ∧ jd_Cs G U U.heap ∧ G.2.2.1 ≤ U.heap.size
theorem jd_X_kept {b L : Nat} {xs : Nat → Int32} {u U : State} {H H1 : Heap} (hvm : u.vm.Alike U.vm) (h : va_X b L xs u H) (hb : H1[b]? = H[b]?) : va_X b L xs U H1 := by
  obtain ⟨scr, h1, h2, h3⟩ := h
  exact ⟨scr, hb.trans h1, State.isArrayOf_alike hvm h2, h3⟩
theorem jd_Cs.moved {G : jd_G} {u U : State} {H H1 : Heap} (hvm : u.vm.Alike U.vm) (hq : ∀ a : Nat, a < H.size → ¬ jd_A G a → H1[a]? = H[a]?) (h : jd_Cs G u H) : jd_Cs G U H1 := by
  obtain ⟨h1, h2, ⟨h3, h4, h5⟩, ⟨h6, h7⟩, ⟨h8, h9, h10, h11⟩, ⟨h12, h13, h14, h15, h16⟩, h17, ⟨h18, h19⟩, h20, h21⟩ := h
  refine ⟨(va_En.moved hvm h1).kept hq, (va_En.moved hvm h2).kept hq, ⟨(va_Z.moved hvm h3).kept hq, (va_O.moved hvm h4).kept hq, (va_OF.moved hvm h5).kept hq⟩, ⟨(va_Z.moved hvm h6).kept hq, (va_T.moved hvm h7).kept hq⟩,
    ⟨(va_Z.moved hvm h8).kept hq, (va_Z.moved hvm h9).kept hq, (va_T.moved hvm h10).kept hq, (vb_C.moved hvm h11).kept hq⟩,
    ⟨(va_Z.moved hvm h12).kept hq, (va_Z.moved hvm h13).kept hq, (va_T.moved hvm h14).kept hq, (va_Z.moved hvm h15).kept hq, (va_T.moved hvm h16).kept hq⟩, (vk_S.moved hvm h17).kept hq, ⟨(vx_Zq.moved hvm h18).kept hq, (vx_Zq.moved hvm h19).kept hq⟩, ?_, h21⟩
  obtain ⟨scr, e1, -⟩ := id h20
  exact jd_X_kept hvm h20 (hq _ (Array.getElem?_eq_some_iff.mp e1).1 h21)
theorem jd_Rs.warm {G : jd_G} {s U : State} (hW : s.WarmedH U.vm) (h : jd_Rs G s) : jd_Rs G U := by
  obtain ⟨h1, h2, h3, h4, h5, h6, h7, h8, n1, n2, n3⟩ := h
  exact ⟨h1.warm hW, h2.warm hW, h3.warm hW, h4.warm hW, h5.warm hW, h6.warm hW, h7.warm hW, h8.warm hW, va_Nc.moved hW.alike n1, va_Nc.moved hW.alike n2, va_Nc.moved hW.alike n3⟩
theorem jd_tr {u U : State} {c : Cond} (hc : c.onTables = true) (h : c.before #[] (u.setVm U.vm) = true) : c.before #[] U = true := by
  have e := Cond.onTables_vm (A := #[]) (A' := #[]) (U := u) (U' := U) U.vm c hc
  have hU : U.setVm U.vm = U := rfl
  rw [hU] at e
  rw [← e]
  exact h
theorem jd_AOA_moved {t : FieldType} {u U : State} (hvm : u.vm.Alike U.vm) (h : va_Nw (.arrayOver (.array t)) u) : va_Nw (.arrayOver (.array t)) U := by
  obtain ⟨comp, c, k, h1, h2, h3, h4, h5⟩ := arrayOverA_spec h
  obtain ⟨k', hk', he⟩ := hvm.2.2 _ _ h3
  have hi : (U.vm.classes.findIdx? fun (x : Class) => match x.kind with | .array component _ => component == comp | _ => false) = some c := by
    rw [hvm.findIdx?_eq _ (fun _ => rfl)]
    exact h2
  have hkind : k'.kind = .array comp (.array t) := by rw [he]; exact h4
  have f1 : U.vm.findClass (FieldType.array t).toString = some comp := by rw [hvm.findClass]; exact h1
  have f2 : U.vm.findClass ("[" ++ (FieldType.array t).toString) = some c := by rw [hvm.findClass]; exact h5
  unfold va_Nw Cond.before Cond.holds
  simp only [Cond.value]
  rw [f1, Option.bind_some]
  refine (congrArg (fun o : Option Nat => (o.bind (fun c => (U.vm.classes[c]?).map fun (k : Class) => match k.kind with | .array _ ty => decide (ty = FieldType.array t) && decide (U.vm.findClass ("[" ++ (FieldType.array t).toString) = some c) | _ => false) == some true)) hi).trans ?_
  simp [hk', hkind, f2]
theorem jd_nw_warm {s U : State} (hW : s.WarmedH U.vm) : ∀ {w : Cond}, jd_nw w = true → va_Nw w s → va_Nw w U := by
  intro w hw h
  cases w <;> first | exact Bool.noConfusion (hw : false = true) | skip
  case fieldLinkNest => exact va_Nw.warmF hW h
  case methodLinkNest => exact va_Nw.warmM hW h
  case castable => exact va_Nw.warmC hW h
  case declares => exact va_Nw.warmD hW h
  case publicMethod => exact jd_tr rfl (by rw [Cond.publicMethod_setVm hW.alike]; exact h)
  case unhidden => exact jd_tr rfl (by rw [Cond.unhidden_setVm hW.alike]; exact h)
  case arrayOver ty =>
    cases ty <;> first | exact Bool.noConfusion (hw : false = true) | skip
    · exact va_AO.moved hW.alike h
    · exact jd_AOA_moved hW.alike h
theorem jd_ifs_ok : ∀ x ∈ jd_ifs, Cond.declares x ∈ lw_tbl ∧ (x.cls ≠ "java/lang/invoke/MethodHandle" ∧ x.cls ≠ "java/lang/invoke/VarHandle") := by
  unfold jd_ifs
  exact List.forall_mem_cons.mpr ⟨⟨q206, by decide⟩, List.forall_mem_cons.mpr ⟨⟨q322, by decide⟩, List.forall_mem_cons.mpr ⟨⟨q341, by decide⟩, List.forall_mem_cons.mpr ⟨⟨q468, by decide⟩, List.forall_mem_cons.mpr ⟨⟨q1004, by decide⟩, List.forall_mem_cons.mpr ⟨⟨q1840, by decide⟩, List.forall_mem_cons.mpr ⟨⟨q1850, by decide⟩, fun _ h => absurd h List.not_mem_nil⟩⟩⟩⟩⟩⟩⟩
theorem jd_Wd.warm {G : jd_G} {s U : State} (hW : s.WarmedH U.vm) (h : jd_Wd G s) : jd_Wd G U := by
  obtain ⟨h1, h2, h3, ⟨mi, e, h4⟩, h5⟩ := h
  refine ⟨va_K.moved hW.alike h1, fun w hw hn => jd_nw_warm hW hn (h2 w hw hn), fun x hx => ?_, ⟨mi, e, va_Mi.moved hW.alike h4⟩, h5.warm hW⟩
  obtain ⟨d1, d2⟩ := jd_ifs_ok x hx
  obtain ⟨r, meth, hn, -⟩ := Cond.declares_spec (h2 _ d1 rfl)
  exact jd_tr rfl (by rw [Cond.interfaceMethod_setVm hW.alike (r := r) hn d2]; exact h3 x hx)
theorem jd_GU.warm {G : jd_G} {s U : State} {H : Heap} {locs : List Loc} (hW : s.WarmedH U.vm) (hS : va_S (jd_A G) s.heap H locs) (hU : U.heap = H) (h : jd_GU G s) : jd_GU G U := by
  obtain ⟨h1, h2, h3⟩ := h
  subst hU
  exact ⟨h1.warm hW, h2.moved hW.alike hS.2.1, Nat.le_trans h3 hS.1⟩
theorem jd_GU.calling {G : jd_G} {a : Array Value} {U : State} {g : JFrame} {mk : MethodId} (h : jd_GU G U) : jd_GU G (U.calling g mk a) := by
  have hW : U.WarmedH (U.calling g mk a).vm := State.WarmedH.refl U
  exact jd_GU.warm (locs := []) hW va_S.rf rfl h
