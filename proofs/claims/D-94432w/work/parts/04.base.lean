/-! ===== THE MACHINE THROUGH HANDLES: memory by handles, one predicate transformer an instruction ===== -/
set_option maxRecDepth 100000
abbrev mm_cl : List vw_C := [(RX1, TX1, 19), (RX2, TX2, 11), (RX3, TX3, 7), (RX4, TX4, 7), (RX5, TX5, 3), (RX6, TX6, 5), (RX7, TX7, 4), (RX8, TX8, 9), (RX9, TX9, 32), (RX11, TX11, 1), (RX12, TX12, 2), (RX13, TX13, 2), (RX14, TX14, 1), (RX15, TX15, 1), (RX16, TX16, 1), (RX17, TX17, 2), (RX19, TX19, 2), (RJ2, TJ2, 3), (RJ7, TJ7, 4), (RJ8, TJ8, 4), (RX10, TX10, 6)]
def mm_ty (ci k : Nat) : FieldType := match ci with
  | 0 => tyX1 k
  | 1 => tyX2 k
  | 2 => tyX3 k
  | 3 => tyX4 k
  | 4 => tyX5 k
  | 5 => tyX6 k
  | 6 => tyX7 k
  | 7 => tyX8 k
  | 8 => tyX9 k
  | 9 => tyX11 k
  | 10 => tyX12 k
  | 11 => tyX13 k
  | 12 => tyX14 k
  | 13 => tyX15 k
  | 14 => tyX16 k
  | 15 => tyX17 k
  | 16 => tyX19 k
  | 17 => tyJ2 k
  | 18 => tyJ7 k
  | 19 => tyJ8 k
  | _ => tyX10 k
def mm_cok (ci : Nat) (r : vw_C) : Prop := (∀ w ∈ u_ws r.1 r.2.1 r.2.2, w ∈ lw_all) ∧ (∀ k, k < r.2.2 → parseFieldDescriptor (r.2.1 k).2.2.1 = some (mm_ty ci k)) ∧ (∀ a, a < r.2.2 → ∀ b, b < r.2.2 → a ≠ b → (r.2.1 a).2.1 ≠ (r.2.1 b).2.1)
theorem mm_clok : ∀ (ci : Nat) (r : vw_C), mm_cl[ci]? = some r → mm_cok ci r
  | 0, _, h => by cases h; exact ⟨in_X1, tyX1_ok, nmX1⟩
  | 1, _, h => by cases h; exact ⟨in_X2, tyX2_ok, nmX2⟩
  | 2, _, h => by cases h; exact ⟨in_X3, tyX3_ok, nmX3⟩
  | 3, _, h => by cases h; exact ⟨in_X4, tyX4_ok, nmX4⟩
  | 4, _, h => by cases h; exact ⟨in_X5, tyX5_ok, nmX5⟩
  | 5, _, h => by cases h; exact ⟨in_X6, tyX6_ok, nmX6⟩
  | 6, _, h => by cases h; exact ⟨in_X7, tyX7_ok, nmX7⟩
  | 7, _, h => by cases h; exact ⟨in_X8, tyX8_ok, nmX8⟩
  | 8, _, h => by cases h; exact ⟨in_X9, tyX9_ok, nmX9⟩
  | 9, _, h => by cases h; exact ⟨in_X11, tyX11_ok, nmX11⟩
  | 10, _, h => by cases h; exact ⟨in_X12, tyX12_ok, nmX12⟩
  | 11, _, h => by cases h; exact ⟨in_X13, tyX13_ok, nmX13⟩
  | 12, _, h => by cases h; exact ⟨in_X14, tyX14_ok, nmX14⟩
  | 13, _, h => by cases h; exact ⟨in_X15, tyX15_ok, nmX15⟩
  | 14, _, h => by cases h; exact ⟨in_X16, tyX16_ok, nmX16⟩
  | 15, _, h => by cases h; exact ⟨in_X17, tyX17_ok, nmX17⟩
  | 16, _, h => by cases h; exact ⟨in_X19, tyX19_ok, nmX19⟩
  | 17, _, h => by cases h; exact ⟨in_J2, tyJ2_ok, nmJ2⟩
  | 18, _, h => by cases h; exact ⟨in_J7, tyJ7_ok, nmJ7⟩
  | 19, _, h => by cases h; exact ⟨in_J8, tyJ8_ok, nmJ8⟩
  | 20, _, h => by cases h; exact ⟨in_X10, tyX10_ok, nmX10⟩
  | n + 21, _, h => by
    have h1 : (mm_cl[n + 21]?) = none := List.getElem?_eq_none (by show 21 ≤ n + 21; omega)
    rw [h1] at h
    cases h
/-- memory: of each handle its shape (kind, class or length), ints, longs, references. kinds: 0 none, 1 object, 2 int[], 3 long[], 4 byte[], 5 boolean[], 6 int[][], 7 Object[], 8 Fact[]; 16 more: read only; 32 and more: it is seen by no one; 48: nothing is known of its place -/
abbrev mm_M : Type := (Nat → Nat × Nat) × (Nat → Nat → Int32) × (Nat → Nat → Int64) × (Nat → Nat → Option Nat)
abbrev mm_L : Type := List (Option Value)
abbrev mm_N : Type := Nat × Nat
abbrev mm_K : Type := Nat → mm_L → List Value → mm_M → mm_N → Prop
abbrev mm_O : Type := mm_L → List Value → mm_M → mm_N → mm_K → Prop
def mm_v (ad : Nat → Nat) (v : Value) : Value := match v with
  | .ref a => .ref (ad a)
  | w => w
theorem mm_v_cat (ad : Nat → Nat) (v : Value) : (mm_v ad v).category = v.category := by cases v <;> rfl
def mm_vk (M : mm_M) (v : Value) : Prop := ∀ b, v = .ref b → (M.1 b).1 ≠ 0
theorem mm_v_eq {M : mm_M} {ad ad' : Nat → Nat} {v : Value} (h : mm_vk M v) (ha : ∀ b, (M.1 b).1 ≠ 0 → ad' b = ad b) : mm_v ad' v = mm_v ad v := by
  cases v with
  | ref b => show Value.ref _ = Value.ref _; rw [ha b (h b rfl)]
  | _ => rfl
def mm_kind (ty : FieldType) : Nat := match ty with
  | .long => 1
  | .object _ => 2
  | .array _ => 2
  | _ => 0
def mm_kd (ci k : Nat) : Nat := mm_kind (mm_ty ci k)
/-- a field's value, by its kind: 0 int, 1 long, 2 reference -/
def mm_fa (M : mm_M) (h kd k : Nat) : Value := match kd with
  | 0 => .int (M.2.1 h k)
  | 1 => .long (M.2.2.1 h k)
  | _ => va_rf (M.2.2.2 h k)
/-- an element's value, by its array's kind -/
def mm_ea (M : mm_M) (h t j : Nat) : Value := match t with
  | 3 => .long (M.2.2.1 h j)
  | 6 => va_rf (M.2.2.2 h j)
  | 7 => va_rf (M.2.2.2 h j)
  | 8 => va_rf (M.2.2.2 h j)
  | _ => .int (M.2.1 h j)
/-- the texts of the String constants; text j has the handle 1000 + j, its bytes 1100 + j -/
def mm_txt : List (List Nat) := [[114, 97, 108, 108, 121], [103, 97, 109, 101, 115], [99, 108, 117, 98], [101, 118, 101, 110], [119, 111, 110], [108, 111, 115, 116], [100, 101, 97, 100], [115, 116, 121, 108, 101], [105, 102], [110, 111, 116], [115, 101, 114, 118, 105, 110, 103], [111, 102, 102], [97, 110, 100], [111, 114], [109, 105, 110, 101], [104, 105, 115], [108, 105, 110, 101], [99, 104, 97, 115, 101, 115]]
def mm_hsh : List Int32 := [108278378, 98120385, 3056822, 3125530, 117910, 3327780, 3079268, 109780401, 3357, 109267, 1984153612, 109935, 96727, 3555, 3351635, 103314, 3321844, (-1361631675)]
/-- what is in the cells that are only read -/
def mm_kI (h k : Nat) : Int32 := bif Nat.ble 1100 h then nI ((mm_txt.getD (h - 1100) []).getD k 0) else bif Nat.beq k 2 then mm_hsh.getD (h - 1000) 0 else 0
def mm_kP (h k : Nat) : Option Nat := bif Nat.beq h 1301 then (bif Nat.ble 5 k then none else some (1200 + k)) else bif Nat.ble 1100 h then none else bif Nat.beq k 0 then some (h + 100) else none
def mm_kM : mm_M := (fun _ => (0, 0), mm_kI, fun _ _ => 0, mm_kP)
/-- the memory that a handle of this kind is read in -/
def mm_me (M : mm_M) (t : Nat) : mm_M := bif Nat.ble 16 t then mm_kM else M
/-- a cell as those see it who only read it: its class and its slots -/
def mm_nrm (c : Cell) : Cell := { cls := c.cls, slots := c.slots, vm := match c.vm with
  | .unknown => .unknown
  | .statics k => .statics k
  | _ => .none }
def mm_hK (H : Heap) : Heap := H.map mm_nrm
def mm_hn (t : Nat) (H : Heap) : Heap := bif Nat.ble 16 t then mm_hK H else H
def mm_at (D : va_G) (aC : Nat → ClassId) (ad : Nat → Nat) (M : mm_M) (h t n : Nat) (H : Heap) : Prop :=
  if t = 1 then ∃ r : vw_C, mm_cl[n]? = some r ∧ t_OB (ad h) (D.1 n) r.2.2 (D.2 n) H (fun k => mm_v ad (mm_fa M h (mm_kd n k) k))
  else H[ad h]? = some (arrV (aC t) n (fun j => mm_v ad (mm_ea M h t j)))
def mm_R (D : va_G) (aC : Nat → ClassId) (ad : Nat → Nat) (M : mm_M) (A : Nat → Prop) (H : Heap) : Prop :=
  (∀ h t n, M.1 h = (t, n) → t ≠ 0 → (t < 16 → A (ad h)) ∧ (¬ t < 16 → t < 48 → ¬ A (ad h) ∧ ad h < H.size) ∧ (t < 32 → mm_at D aC ad (mm_me M t) h (t % 16) n (mm_hn t H))) ∧
  (∀ h h', (M.1 h).1 ≠ 0 → (M.1 h').1 ≠ 0 → (M.1 h).1 < 16 → (M.1 h').1 < 16 → ad h = ad h' → h = h') ∧
  (∀ h k b, (M.1 h).1 ≠ 0 → (mm_me M (M.1 h).1).2.2.2 h k = some b → (M.1 b).1 ≠ 0)
/-- since (M0, ad0) no live handle has changed its shape or place; what is read only was there -/
def mm_ag (M0 : mm_M) (ad0 : Nat → Nat) (M : mm_M) (ad : Nat → Nat) : Prop :=
  (∀ h, (M0.1 h).1 ≠ 0 → ad h = ad0 h ∧ M.1 h = M0.1 h) ∧ ∀ h, ¬ (M.1 h).1 < 16 → (M0.1 h).1 ≠ 0
theorem mm_ag.rf {M : mm_M} {ad : Nat → Nat} : mm_ag M ad M ad := ⟨fun _ _ => ⟨rfl, rfl⟩, fun h q e => q (by rw [e]; decide)⟩
theorem mm_ag.tr {M0 M1 M2 : mm_M} {a0 a1 a2 : Nat → Nat} (h : mm_ag M0 a0 M1 a1) (h' : mm_ag M1 a1 M2 a2) : mm_ag M0 a0 M2 a2 := by
  refine ⟨fun x hx => ?_, fun x hx => ?_⟩
  · obtain ⟨e1, e2⟩ := h.1 x hx
    obtain ⟨e3, e4⟩ := h'.1 x (by rw [e2]; exact hx)
    exact ⟨e3.trans e1, e4.trans e2⟩
  · have h1 := h'.2 x hx
    have e4 := (h'.1 x h1).2
    exact h.2 x (by rw [← e4]; exact hx)
/-- locals -/
def mm_lv (ad : Nat → Nat) (ls : Array Slot) (lv : mm_L) : Prop := lv_wf ls ∧ ls.size = lv.length ∧ ∀ (i : Nat) (v : Value), lv[i]? = some (some v) → ls[i]? = some (.val (mm_v ad v))
def mm_ok (M : mm_M) (lv : mm_L) (st : List Value) : Prop := (∀ v ∈ st, mm_vk M v) ∧ ∀ (i : Nat) (v : Value), lv[i]? = some (some v) → mm_vk M v
/-! what holds of tables, constants' places and statics all through -/
/-- the array classes stay found -/
theorem mm_ao {ty : FieldType} {u U : State} (hvm : u.vm.Alike U.vm) (h : (Cond.arrayOver ty).before #[] u = true) : (Cond.arrayOver ty).before #[] U = true := by
  have hf : ∀ n, U.vm.findClass n = u.vm.findClass n := fun n => hvm.findClass n _
  have hi : ∀ comp : ClassId, (U.vm.classes.findIdx? fun (x : Class) => match x.kind with | .array component _ => component == comp | _ => false) = (u.vm.classes.findIdx? fun (x : Class) => match x.kind with | .array component _ => component == comp | _ => false) := by
    intro comp
    have e1 := va_idx_bare U.vm comp
    have e2 := va_idx_bare u.vm comp
    have e3 : U.vm.bare = u.vm.bare := by first | exact hvm.bare_eq | exact hvm.bare_eq.symm
    rw [e3] at e1
    exact e1.symm.trans e2
  cases ty with
  | object C => exact va_AO.moved hvm h
  | array t =>
    unfold Cond.before Cond.holds at h ⊢
    simp only [Cond.value] at h ⊢
    rw [hf]
    cases hc : u.vm.findClass (FieldType.array t).toString with
    | none => rw [hc] at h; simp at h
    | some comp =>
      rw [hc] at h
      rw [Option.bind_some] at h ⊢
      cases hx : (u.vm.classes.findIdx? fun (x : Class) => match x.kind with | .array component _ => component == comp | _ => false) with
      | none =>
        have h2 := (congrArg (fun o : Option Nat => (o.bind (fun c => (u.vm.classes[c]?).map fun (k : Class) => match k.kind with | .array _ ty => decide (ty = FieldType.array t) && decide (u.vm.findClass ("[" ++ (FieldType.array t).toString) = some c) | _ => false) == some true)) hx).symm.trans h
        simp at h2
      | some c =>
        have h2 := (congrArg (fun o : Option Nat => (o.bind (fun c => (u.vm.classes[c]?).map fun (k : Class) => match k.kind with | .array _ ty => decide (ty = FieldType.array t) && decide (u.vm.findClass ("[" ++ (FieldType.array t).toString) = some c) | _ => false) == some true)) hx).symm.trans h
        refine (congrArg (fun o : Option Nat => (o.bind (fun c => (U.vm.classes[c]?).map fun (k : Class) => match k.kind with | .array _ ty => decide (ty = FieldType.array t) && decide (U.vm.findClass ("[" ++ (FieldType.array t).toString) = some c) | _ => false) == some true)) ((hi comp).trans hx)).trans ?_
        cases hk : u.vm.classes[c]? with
        | none => simp [hk] at h2
        | some k =>
          obtain ⟨k', hk', he⟩ := hvm.2.2 _ _ hk
          have hkk : k'.kind = k.kind := by rw [he]
          simp only [hk, hk', hkk, hf, Option.bind_some, Option.map_some] at h2 ⊢
          exact h2
  | _ => 
    unfold Cond.before Cond.holds at h
    simp [Cond.value] at h
/-- words of the tables that don't ride in lw_all -/
def mm_nw (w : Cond) : Bool := match w with
  | .fieldLinkNest _ _ _ _ _ _ => true
  | .methodLinkNest _ _ _ _ => true
  | .arrayOver _ => true
  | .castable _ _ => true
  | .declares _ => true
  | .privateMethod _ => true
  | _ => false
theorem mm_pv {s U : State} {y : MethodName} (hA : s.vm.Alike U.vm) (h : va_Nw (.privateMethod y) s) : va_Nw (.privateMethod y) U := by
  have e := Cond.privateMethod_setVm (args := #[]) hA y
  have h2 : (Cond.privateMethod y).before #[] (s.setVm U.vm) = true := by rw [e]; exact h
  exact h2
/-- calls through an interface: the receiver's class, the interface's method, the method -/
def mm_fw : List (String × MethodName × MethodName) := [("ChaseCourt$Row", ⟨"ChaseCourt$Cond", "holds", "(LChaseCourt$Scene;)Z"⟩, ⟨"ChaseCourt$Row", "holds", "(LChaseCourt$Scene;)Z"⟩), ("ChaseCourt$Not", ⟨"ChaseCourt$Cond", "holds", "(LChaseCourt$Scene;)Z"⟩, ⟨"ChaseCourt$Not", "holds", "(LChaseCourt$Scene;)Z"⟩), ("ChaseCourt$Is", ⟨"ChaseCourt$Cond", "holds", "(LChaseCourt$Scene;)Z"⟩, ⟨"ChaseCourt$Is", "holds", "(LChaseCourt$Scene;)Z"⟩), ("ChaseCourt$Less", ⟨"ChaseCourt$Cond", "holds", "(LChaseCourt$Scene;)Z"⟩, ⟨"ChaseCourt$Less", "holds", "(LChaseCourt$Scene;)Z"⟩), ("java/util/ArrayList", ⟨"java/util/Collection", "toArray", "()[Ljava/lang/Object;"⟩, ⟨"java/util/ArrayList", "toArray", "()[Ljava/lang/Object;"⟩)]
theorem mm_fw_ok : ∀ q ∈ mm_fw, q.2.1.cls ≠ "java/lang/invoke/MethodHandle" ∧ q.2.1.cls ≠ "java/lang/invoke/VarHandle" := by decide +kernel
/-- the exceptions' names, by number -/
def mm_ex : List String := ["ChaseCourt$Wrong", "java/lang/IllegalArgumentException", "java/lang/UnsupportedOperationException", "java/lang/IndexOutOfBoundsException", "java/util/NoSuchElementException", "java/lang/IllegalStateException"]
def mm_T (U : State) : Prop := (∀ w ∈ lw_tbl, mm_nw w = true → va_Nw w U) ∧ (∀ q ∈ mm_fw, va_Fw q.1 q.2.1 q.2.2 U) ∧ (∀ a ∈ mm_ex, ∀ b ∈ mm_ex, a ≠ b → va_Nc a b U) ∧ va_Dc U
theorem mm_T.warm {s U : State} (hW : s.WarmedH U.vm) (h : mm_T s) : mm_T U := by
  refine ⟨fun w hw hn => ?_, fun q hq => (h.2.1 q hq).moved (mm_fw_ok q hq) hW.alike, fun a ha b hb hn => (h.2.2.1 a ha b hb hn).moved hW.alike, h.2.2.2.moved hW.alike⟩
  have h1 := h.1 w hw hn
  cases w <;> first | exact va_Nw.warmF hW h1 | exact va_Nw.warmM hW h1 | exact mm_ao hW.alike h1 | exact mm_pv hW.alike h1 | exact va_Nw.warmC hW h1 | exact va_Nw.warmD hW h1 | exact absurd hn (by simp [mm_nw])
theorem mm_T.same {u U : State} (e : u.vm = U.vm) (h : mm_T u) : mm_T U := by
  have hA : u.vm.Alike U.vm := by rw [e]; exact Vm.Alike.refl _
  refine ⟨fun w hw hn => ?_, fun q hq => (h.2.1 q hq).moved (mm_fw_ok q hq) hA, fun a ha b hb hn => (h.2.2.1 a ha b hb hn).moved hA, h.2.2.2.moved hA⟩
  have h1 := h.1 w hw hn
  cases w <;> first | (exfalso; simp [mm_nw] at hn; done) | exact va_Nw.same rfl e h1 | exact mm_pv (by rw [e]; exact Vm.Alike.refl _) h1 | exact mm_ao (by rw [e]; exact Vm.Alike.refl _) h1
def mm_tys (aC : Nat → ClassId) : List (ClassId × FieldType) := [(aC 2, .int), (aC 3, .long), (aC 4, .byte), (aC 5, .boolean), (aC 6, .array .int), (aC 7, .object "java/lang/Object"), (aC 8, .object "ChaseCourt$Fact")]
/-- String constants by class, entry, text, handle -/
def mm_str : List (String × Nat × String × Nat) := [("ChaseCourt", 122, "rally", 1000), ("ChaseCourt", 128, "games", 1001), ("ChaseCourt", 130, "club", 1002), ("ChaseCourt", 132, "even", 1003), ("ChaseCourt", 141, "won", 1004), ("ChaseCourt", 143, "lost", 1005), ("ChaseCourt", 145, "dead", 1006), ("ChaseCourt", 293, "style", 1007), ("ChaseCourt", 297, "if", 1008), ("ChaseCourt", 248, "not", 1009), ("ChaseCourt", 262, "serving", 1010), ("ChaseCourt", 269, "off", 1011), ("ChaseCourt", 286, "and", 1012), ("ChaseCourt", 291, "or", 1013), ("ChaseCourtModel", 190, "style", 1007), ("ChaseCourtModel", 192, "if", 1008), ("ChaseCourtModel", 171, "not", 1009), ("ChaseCourtModel", 157, "serving", 1010), ("ChaseCourtModel", 163, "off", 1011), ("ChaseCourtModel", 146, "mine", 1014), ("ChaseCourtModel", 148, "his", 1015), ("ChaseCourtModel", 150, "line", 1016), ("ChaseCourtModel", 152, "chases", 1017), ("ChaseCourtModel", 123, "games", 1001), ("ChaseCourtModel", 183, "and", 1012), ("ChaseCourtModel", 188, "or", 1013), ("ChaseCourtModel", 107, "rally", 1000), ("ChaseCourtModel", 117, "won", 1004), ("ChaseCourtModel", 119, "lost", 1005), ("ChaseCourtModel", 121, "dead", 1006), ("ChaseCourtModel", 125, "club", 1002), ("ChaseCourtModel", 127, "even", 1003), ("ChaseCourt$Fact", 53, "mine", 1014), ("ChaseCourt$Fact", 59, "his", 1015), ("ChaseCourt$Fact", 62, "line", 1016), ("ChaseCourt$Fact", 65, "chases", 1017), ("ChaseCourt$Fact", 68, "games", 1001)]
/-- statics that are read: class, name, descriptor, value (by handles) -/
def mm_sta : List (String × String × String × Value) := [("java/util/ArrayList", "DEFAULTCAPACITY_EMPTY_ELEMENTDATA", "[Ljava/lang/Object;", .ref 1300), ("ChaseCourt$Fact", "$VALUES", "[LChaseCourt$Fact;", .ref 1301), ("java/lang/String", "COMPACT_STRINGS", "Z", .int 1)]
def mm_X0 (ad : Nat → Nat) (A : Nat → Prop) (U : State) (H : Heap) : Prop :=
  (∀ q ∈ mm_str, vk_R q.1 q.2.1 q.2.2.1 (ad q.2.2.2) U) ∧ (∀ q ∈ mm_sta, va_Z q.1 q.2.1 q.2.2.1 (mm_v ad q.2.2.2) A U H) ∧
  vx_Zq Bundle.tN "UNASSIGNED_STACK" Bundle.steD A U H ∧ vx_Zq Bundle.tN "SUPPRESSED_SENTINEL" Bundle.listD A U H ∧
  (va_Z "jdk/internal/util/Preconditions" "SIOOBE_FORMATTER" "Ljava/util/function/BiFunction;" .null A U H ∨ va_Z "jdk/internal/util/Preconditions" "SIOOBE_FORMATTER" "Ljava/util/function/BiFunction;" (.ref (ad 1302)) A U H)
theorem mm_X0.same {ad : Nat → Nat} {A : Nat → Prop} {u U : State} {H : Heap} (e : U.vm = u.vm) (h : mm_X0 ad A u H) : mm_X0 ad A U H := by
  have hA : u.vm.Alike U.vm := by rw [e]; exact Vm.Alike.refl _
  exact ⟨fun q hq => (h.1 q hq).same e, fun q hq => (h.2.1 q hq).moved hA, h.2.2.1.moved hA, h.2.2.2.1.moved hA, h.2.2.2.2.imp (fun z => z.moved hA) (fun z => z.moved hA)⟩
theorem mm_X0.warm {ad : Nat → Nat} {A A' : Nat → Prop} {s U : State} {H : Heap} {locs : List Loc} (hW : s.WarmedH U.vm) (hS : va_S A s.heap H locs) (hA : ∀ q, A' q → A q) (h : mm_X0 ad A s s.heap) : mm_X0 ad A' U H := by
  have hq : ∀ a : Nat, a < s.heap.size → ¬ A a → H[a]? = s.heap[a]? := fun a h1 h2 => hS.2.1 a h1 h2
  exact ⟨fun q hq2 => (h.1 q hq2).warm hW, fun q hq2 => (((h.2.1 q hq2).moved hW.alike).kept hq).narrow hA, ((h.2.2.1.moved hW.alike).kept hq).narrow hA, ((h.2.2.2.1.moved hW.alike).kept hq).narrow hA, h.2.2.2.2.imp (fun z => ((z.moved hW.alike).kept hq).narrow hA) (fun z => ((z.moved hW.alike).kept hq).narrow hA)⟩
/-- the handle of the word of a Fact -/
def mm_tf (j : Nat) : Nat := bif Nat.beq j 4 then 1001 else 1014 + j
/-- Throwable's statics that are read: name, descriptor, handle -/
def mm_tst : List (String × String × Nat) := [("UNASSIGNED_STACK", "[Ljava/lang/StackTraceElement;", 1304), ("SUPPRESSED_SENTINEL", "Ljava/util/List;", 1305)]
/-- the constants of Fact, the class object of Object[], Throwable's statics -/
def mm_X1 (ad : Nat → Nat) (A : Nat → Prop) (U : State) (H : Heap) : Prop :=
  (∀ j, j < 5 → va_O "ChaseCourt$Fact" (ad (1200 + j)) A U H ∧ va_OF "java/lang/Enum" "ordinal" "I" (.int (nI j)) (ad (1200 + j)) A U H ∧ va_OF "ChaseCourt$Fact" "told" "Ljava/lang/String;" (.ref (ad (mm_tf j))) (ad (1200 + j)) A U H) ∧ va_Mi "[Ljava/lang/Object;" (ad 1303) U ∧ ∀ q ∈ mm_tst, va_Z "java/lang/Throwable" q.1 q.2.1 .null A U H ∨ va_Z "java/lang/Throwable" q.1 q.2.1 (.ref (ad q.2.2)) A U H
theorem mm_X1.same {ad : Nat → Nat} {A : Nat → Prop} {u U : State} {H : Heap} (e : U.vm = u.vm) (h : mm_X1 ad A u H) : mm_X1 ad A U H := by
  have hA : u.vm.Alike U.vm := by rw [e]; exact Vm.Alike.refl _
  exact ⟨fun j hj => ⟨(h.1 j hj).1.moved hA, (h.1 j hj).2.1.moved hA, (h.1 j hj).2.2.moved hA⟩, h.2.1.moved hA, fun q hq => (h.2.2 q hq).imp (fun z => z.moved hA) (fun z => z.moved hA)⟩
theorem mm_X1.warm {ad : Nat → Nat} {A A' : Nat → Prop} {s U : State} {H : Heap} {locs : List Loc} (hW : s.WarmedH U.vm) (hS : va_S A s.heap H locs) (hA : ∀ q, A' q → A q) (h : mm_X1 ad A s s.heap) : mm_X1 ad A' U H := by
  have hq : ∀ a : Nat, a < s.heap.size → ¬ A a → H[a]? = s.heap[a]? := fun a h1 h2 => hS.2.1 a h1 h2
  exact ⟨fun j hj => ⟨(((h.1 j hj).1.moved hW.alike).kept hq).narrow hA, (((h.1 j hj).2.1.moved hW.alike).kept hq).narrow hA, (((h.1 j hj).2.2.moved hW.alike).kept hq).narrow hA⟩, h.2.1.moved hW.alike, fun q h9 => (h.2.2 q h9).imp (fun z => ((z.moved hW.alike).kept hq).narrow hA) (fun z => ((z.moved hW.alike).kept hq).narrow hA)⟩
def mm_X (ad : Nat → Nat) (A : Nat → Prop) (U : State) (H : Heap) : Prop := mm_X0 ad A U H ∧ mm_X1 ad A U H
theorem mm_X.same {ad : Nat → Nat} {A : Nat → Prop} {u U : State} {H : Heap} (e : U.vm = u.vm) (h : mm_X ad A u H) : mm_X ad A U H := ⟨h.1.same e, h.2.same e⟩
theorem mm_X.warm {ad : Nat → Nat} {A A' : Nat → Prop} {s U : State} {H : Heap} {locs : List Loc} (hW : s.WarmedH U.vm) (hS : va_S A s.heap H locs) (hA : ∀ q, A' q → A q) (h : mm_X ad A s s.heap) : mm_X ad A' U H := ⟨h.1.warm hW hS hA, h.2.warm hW hS hA⟩
/-- the shapes of the handles 1000 to 1399 -/
def mm_cS (h : Nat) : Nat × Nat := bif Nat.ble 1400 h then (0, 0) else bif Nat.ble 1300 h then (bif Nat.beq h 1300 then (23, 0) else bif Nat.beq h 1301 then (24, 5) else bif Nat.beq h 1302 then (48, 9) else bif Nat.beq h 1303 then (48, 9) else bif Nat.beq h 1304 then (48, 9) else bif Nat.beq h 1305 then (48, 9) else (0, 0)) else bif Nat.ble 1200 h then (bif Nat.ble 1205 h then (0, 0) else (32, h - 1200)) else bif Nat.ble 1100 h then (bif Nat.ble 1118 h then (0, 0) else (20, (mm_txt.getD (h - 1100) []).length)) else bif Nat.ble 1018 h then (0, 0) else (17, 19)
def mm_cs (M : mm_M) : Prop := ∀ h, 1000 ≤ h → h < 1400 → (mm_cS h).1 ≠ 0 → M.1 h = mm_cS h
theorem mm_X0.re {ad ad' : Nat → Nat} {M : mm_M} {A : Nat → Prop} {U : State} {H : Heap} (hc : mm_cs M) (ha : ∀ h, (M.1 h).1 ≠ 0 → ad' h = ad h) (h : mm_X0 ad A U H) : mm_X0 ad' A U H := by
  have hl : ∀ q ∈ mm_str, ad' q.2.2.2 = ad q.2.2.2 := by
    intro q hq
    have h1 : ∀ q ∈ mm_str, 1000 ≤ q.2.2.2 ∧ q.2.2.2 < 1400 ∧ (mm_cS q.2.2.2).1 ≠ 0 := by decide +kernel
    obtain ⟨a, b, c⟩ := h1 q hq
    exact ha _ (by rw [hc _ a b c]; exact c)
  have hv : ∀ q ∈ mm_sta, mm_v ad' q.2.2.2 = mm_v ad q.2.2.2 := by
    intro q hq
    simp only [mm_sta, List.mem_cons, List.not_mem_nil, or_false] at hq
    rcases hq with e | e | e
    · rw [e]; show Value.ref _ = Value.ref _; rw [ha 1300 (by rw [hc _ (by decide) (by decide) (by decide)]; decide)]
    · rw [e]; show Value.ref _ = Value.ref _; rw [ha 1301 (by rw [hc _ (by decide) (by decide) (by decide)]; decide)]
    · rw [e]; rfl
  exact ⟨fun q hq => by rw [hl q hq]; exact h.1 q hq, fun q hq => by rw [hv q hq]; exact h.2.1 q hq, h.2.2.1, h.2.2.2.1, h.2.2.2.2.imp id (fun z => by rw [ha 1302 (by rw [hc _ (by decide) (by decide) (by decide)]; decide)]; exact z)⟩
theorem mm_X.re {ad ad' : Nat → Nat} {M : mm_M} {A : Nat → Prop} {U : State} {H : Heap} (hc : mm_cs M) (ha : ∀ h, (M.1 h).1 ≠ 0 → ad' h = ad h) (h : mm_X ad A U H) : mm_X ad' A U H := by
  refine ⟨h.1.re hc ha, ⟨fun j hj => ?_, ?_, fun q hq => ?_⟩⟩
  · have hl : ∀ j, j < 5 → (1000 ≤ 1200 + j ∧ 1200 + j < 1400 ∧ (mm_cS (1200 + j)).1 ≠ 0) ∧ 1000 ≤ mm_tf j ∧ mm_tf j < 1400 ∧ (mm_cS (mm_tf j)).1 ≠ 0 := by decide
    obtain ⟨⟨a1, a2, a3⟩, b1, b2, b3⟩ := hl j hj
    rw [ha (1200 + j) (by rw [hc _ a1 a2 a3]; exact a3), ha (mm_tf j) (by rw [hc _ b1 b2 b3]; exact b3)]
    exact h.2.1 j hj
  · rw [ha 1303 (by rw [hc _ (by decide) (by decide) (by decide)]; decide)]
    exact h.2.2.1
  · have hl : ∀ q ∈ mm_tst, 1000 ≤ q.2.2 ∧ q.2.2 < 1400 ∧ (mm_cS q.2.2).1 ≠ 0 := by decide
    obtain ⟨a1, a2, a3⟩ := hl q hq
    rw [ha q.2.2 (by rw [hc _ a1 a2 a3]; exact a3)]
    exact h.2.2.2 q hq
/-! the context of a method's run: machine, method, contract, world -/
abbrev mm_C : Type := (Program × Launch × Env × Room × State × MethodId) × (Array Value × List Frame × Method × Code) × ((Option Value → mm_M → Prop) × (String → mm_M → Prop) × Nat × Nat) × (va_G × (Nat → ClassId) × (Nat → Nat) × mm_M × (Nat → Prop))
abbrev c_p (C : mm_C) : Program := C.1.1
abbrev c_l (C : mm_C) : Launch := C.1.2.1
abbrev c_e (C : mm_C) : Env := C.1.2.2.1
abbrev c_R (C : mm_C) : Room := C.1.2.2.2.1
abbrev c_s (C : mm_C) : State := C.1.2.2.2.2.1
abbrev c_m (C : mm_C) : MethodId := C.1.2.2.2.2.2
abbrev c_a (C : mm_C) : Array Value := C.2.1.1
abbrev c_b (C : mm_C) : List Frame := C.2.1.2.1
abbrev c_t (C : mm_C) : Method := C.2.1.2.2.1
abbrev c_c (C : mm_C) : Code := C.2.1.2.2.2
abbrev c_Q (C : mm_C) : Option Value → mm_M → Prop := C.2.2.1.1
abbrev c_X (C : mm_C) : String → mm_M → Prop := C.2.2.1.2.1
abbrev c_mc (C : mm_C) : Nat := C.2.2.1.2.2.1
abbrev c_ms (C : mm_C) : Nat := C.2.2.1.2.2.2
abbrev c_D (C : mm_C) : va_G := C.2.2.2.1
abbrev c_aC (C : mm_C) : Nat → ClassId := C.2.2.2.2.1
abbrev c_ad (C : mm_C) : Nat → Nat := C.2.2.2.2.2.1
abbrev c_M (C : mm_C) : mm_M := C.2.2.2.2.2.2.1
abbrev c_A (C : mm_C) : Nat → Prop := C.2.2.2.2.2.2.2
/-- a contract's end, by handles -/
def mm_PQ (D : va_G) (aC : Nat → ClassId) (ad0 : Nat → Nat) (M0 : mm_M) (A : Nat → Prop) (Post : Option Value → mm_M → Prop) : Array Value → State → Outcome → State → Prop := fun _ st o t =>
  (∃ (v : Option Value) (M : mm_M) (ad : Nat → Nat), o = .returned (v.map (mm_v ad)) ∧ Post v M ∧ mm_ag M0 ad0 M ad ∧ mm_R D aC ad M A t.heap ∧ (∀ w, v = some w → mm_vk M w)) ∧ va_F A st t
def mm_PX (D : va_G) (aC : Nat → ClassId) (ad0 : Nat → Nat) (M0 : mm_M) (A : Nat → Prop) (PX : String → mm_M → Prop) : String → State → State → Prop := fun E st t =>
  (∃ (M : mm_M) (ad : Nat → Nat), PX E M ∧ mm_ag M0 ad0 M ad ∧ mm_R D aC ad M A t.heap) ∧ va_F A st t
abbrev mm_Q (C : mm_C) : State → Prop := vx_MQ (c_b C) (mm_PQ (c_D C) (c_aC C) (c_ad C) (c_M C) (c_A C) (c_Q C)) (mm_PX (c_D C) (c_aC C) (c_ad C) (c_M C) (c_A C) (c_X C)) (c_a C) (c_s C) (c_mc C) (c_ms C) (c_A C)
abbrev mm_Wc (C : mm_C) (H : Heap) (locs : List Loc) (N : mm_N) (g : JFrame) : Prop := W (c_p C) (c_l C) (c_e C) (c_R C) (c_s C) (c_m C) (c_a C) (c_b C) (c_t C) (c_c C) H locs N.1 N.2 (mm_Q C) g
/-- the state of a run: where it stands, seen by handles -/
def mm_S (C : mm_C) (lv : mm_L) (st : List Value) (M : mm_M) (N : mm_N) (ad : Nat → Nat) (H : Heap) (locs : List Loc) (ls : Array Slot) : Prop :=
  mm_ag (c_M C) (c_ad C) M ad ∧ mm_R (c_D C) (c_aC C) ad M (c_A C) H ∧ va_S (c_A C) (c_s C).heap H locs ∧ mm_lv ad ls lv ∧ ls.size = (c_c C).maxLocals ∧ mm_ok M lv st ∧ N.1 ≤ (c_R C).cells ∧ N.2 ≤ (c_R C).slots
def mm_W (C : mm_C) : mm_K := fun pc lv st M N => ∀ (ad : Nat → Nat) (H : Heap) (locs : List Loc) (ls : Array Slot), mm_S C lv st M N ad H locs ls → mm_Wc C H locs N (F0 (c_m C) pc ls (st.map (mm_v ad)))
/-- the judgement of a run's points: 0 is the return, 1 a throw (its number: the length of the locals' list), pc + 2 the point pc -/
def mm_Z (C : mm_C) : mm_K := fun q lv st M N => match q with
  | 0 => c_Q C st.head? M ∧ N.1 ≤ c_mc C ∧ N.2 ≤ c_ms C
  | 1 => (∃ E, mm_ex[lv.length]? = some E ∧ c_X C E M) ∧ N.1 ≤ c_mc C ∧ N.2 ≤ c_ms C
  | pc + 2 => mm_W C pc lv st M N
/-- what is known of a method's run -/
def mm_G (C : mm_C) (own : String) (cc : ByteArray) (ret : Option FieldType) (nL : Nat) (rm : Room) : Prop :=
  (c_p C).tables.exec = Jvm.exec ∧ (c_c C).code = cc ∧ (c_s C).vm.findClass own = some (c_m C).cls ∧ (∀ w ∈ lw_all, w.before (c_a C) (c_s C) = true) ∧ mm_T (c_s C) ∧ va_K (c_D C) mm_cl (mm_tys (c_aC C)) (c_s C) ∧
  (∀ q, (c_s C).heap.size ≤ q → c_A C q) ∧ (c_t C).locks = false ∧ mm_X (c_ad C) (c_A C) (c_s C) (c_s C).heap ∧ mm_cs (c_M C) ∧ (c_t C).sig.returnType = ret ∧ (c_l C).stackTraces = false ∧ (c_c C).maxLocals = nL ∧ c_R C = rm
theorem mm_G.hx {C : mm_C} {own : String} {cc : ByteArray} {ret : Option FieldType} {nL : Nat} {rm : Room} (G : mm_G C own cc ret nL rm) : (c_p C).tables.exec = Jvm.exec := G.1
theorem mm_G.hb {C : mm_C} {own : String} {cc : ByteArray} {ret : Option FieldType} {nL : Nat} {rm : Room} (G : mm_G C own cc ret nL rm) : (c_c C).code = cc := G.2.1
theorem mm_G.ho {C : mm_C} {own : String} {cc : ByteArray} {ret : Option FieldType} {nL : Nat} {rm : Room} (G : mm_G C own cc ret nL rm) : (c_s C).vm.findClass own = some (c_m C).cls := G.2.2.1
theorem mm_G.ht {C : mm_C} {own : String} {cc : ByteArray} {ret : Option FieldType} {nL : Nat} {rm : Room} (G : mm_G C own cc ret nL rm) : ∀ w ∈ lw_all, w.before (c_a C) (c_s C) = true := G.2.2.2.1
theorem mm_G.hT {C : mm_C} {own : String} {cc : ByteArray} {ret : Option FieldType} {nL : Nat} {rm : Room} (G : mm_G C own cc ret nL rm) : mm_T (c_s C) := G.2.2.2.2.1
theorem mm_G.hn {C : mm_C} {own : String} {cc : ByteArray} {ret : Option FieldType} {nL : Nat} {rm : Room} (G : mm_G C own cc ret nL rm) : ∀ w ∈ lw_tbl, mm_nw w = true → va_Nw w (c_s C) := G.2.2.2.2.1.1
theorem mm_G.hK {C : mm_C} {own : String} {cc : ByteArray} {ret : Option FieldType} {nL : Nat} {rm : Room} (G : mm_G C own cc ret nL rm) : va_K (c_D C) mm_cl (mm_tys (c_aC C)) (c_s C) := G.2.2.2.2.2.1
theorem mm_G.hA {C : mm_C} {own : String} {cc : ByteArray} {ret : Option FieldType} {nL : Nat} {rm : Room} (G : mm_G C own cc ret nL rm) : ∀ q, (c_s C).heap.size ≤ q → c_A C q := G.2.2.2.2.2.2.1
theorem mm_G.hlk {C : mm_C} {own : String} {cc : ByteArray} {ret : Option FieldType} {nL : Nat} {rm : Room} (G : mm_G C own cc ret nL rm) : (c_t C).locks = false := G.2.2.2.2.2.2.2.1
theorem mm_G.hX {C : mm_C} {own : String} {cc : ByteArray} {ret : Option FieldType} {nL : Nat} {rm : Room} (G : mm_G C own cc ret nL rm) : mm_X (c_ad C) (c_A C) (c_s C) (c_s C).heap := G.2.2.2.2.2.2.2.2.1
theorem mm_G.hc {C : mm_C} {own : String} {cc : ByteArray} {ret : Option FieldType} {nL : Nat} {rm : Room} (G : mm_G C own cc ret nL rm) : mm_cs (c_M C) := G.2.2.2.2.2.2.2.2.2.1
theorem mm_G.hr {C : mm_C} {own : String} {cc : ByteArray} {ret : Option FieldType} {nL : Nat} {rm : Room} (G : mm_G C own cc ret nL rm) : (c_t C).sig.returnType = ret := G.2.2.2.2.2.2.2.2.2.2.1
theorem mm_G.hst {C : mm_C} {own : String} {cc : ByteArray} {ret : Option FieldType} {nL : Nat} {rm : Room} (G : mm_G C own cc ret nL rm) : (c_l C).stackTraces = false := G.2.2.2.2.2.2.2.2.2.2.2.1
theorem mm_G.hm {C : mm_C} {own : String} {cc : ByteArray} {ret : Option FieldType} {nL : Nat} {rm : Room} (G : mm_G C own cc ret nL rm) : (c_c C).maxLocals = nL := G.2.2.2.2.2.2.2.2.2.2.2.2.1
theorem mm_G.hR {C : mm_C} {own : String} {cc : ByteArray} {ret : Option FieldType} {nL : Nat} {rm : Room} (G : mm_G C own cc ret nL rm) : c_R C = rm := G.2.2.2.2.2.2.2.2.2.2.2.2.2
/-- an instruction's transformer holds at pc -/
def mm_OK (C : mm_C) (pc : Nat) (op : mm_O) : Prop := ∀ lv st M N (K : mm_K), (∀ q lv st M N, K q lv st M N → mm_Z C q lv st M N) → op lv st M N K → mm_W C pc lv st M N
/-- a method's code as transformers -/
abbrev mm_P : Type := List (Nat × mm_O)
def mm_OKs (C : mm_C) : mm_P → Prop
  | [] => True
  | q :: r => mm_OK C q.1 q.2 ∧ mm_OKs C r
theorem mm_OKs.app {C : mm_C} : ∀ {a b : mm_P}, mm_OKs C a → mm_OKs C b → mm_OKs C (a ++ b)
  | [], _, _, hb => hb
  | _ :: _, _, ha, hb => ⟨ha.1, mm_OKs.app ha.2 hb⟩
def mm_find : mm_P → Nat → Option mm_O
  | [], _ => none
  | q :: r, pc => bif Nat.beq q.1 pc then some q.2 else mm_find r pc
theorem mm_find_ok {C : mm_C} {pc : Nat} {op : mm_O} : ∀ {c : mm_P}, mm_OKs C c → mm_find c pc = some op → mm_OK C pc op
  | [], _, h => by cases h
  | q :: r, hk, h => by
    unfold mm_find at h
    cases hq : Nat.beq q.1 pc with
    | true =>
      rw [hq] at h
      cases h
      have e : q.1 = pc := Nat.eq_of_beq_eq_true hq
      rw [← e]
      exact hk.1
    | false =>
      rw [hq] at h
      exact mm_find_ok hk.2 h
/-- the run of at most n instructions from the point pc, up to a point of the stops -/
def mm_run (c : mm_P) (stops : List Nat) (K : mm_K) : Nat → mm_K
  | 0, pc, lv, st, M, N => K (pc + 2) lv st M N
  | n + 1, pc, lv, st, M, N => match mm_find c pc with
    | none => K (pc + 2) lv st M N
    | some op => op lv st M N (fun q lv' st' M' N' => match q with
      | 0 => K 0 lv' st' M' N'
      | 1 => K 1 lv' st' M' N'
      | p + 2 => bif stops.elem p then K (p + 2) lv' st' M' N' else mm_run c stops K n p lv' st' M' N')
theorem mm_go {C : mm_C} {c : mm_P} (hc : mm_OKs C c) (stops : List Nat) : ∀ (n pc : Nat) (lv : mm_L) (st : List Value) (M : mm_M) (N : mm_N), mm_run c stops (mm_Z C) n pc lv st M N → mm_W C pc lv st M N
  | 0, pc, lv, st, M, N, h => h
  | n + 1, pc, lv, st, M, N, h => by
    unfold mm_run at h
    cases hf : mm_find c pc with
    | none => rw [hf] at h; exact h
    | some op =>
      rw [hf] at h
      refine mm_find_ok hc hf lv st M N _ ?_ h
      intro q lv st M N hq
      match q, hq with
      | 0, hq => exact hq
      | 1, hq => exact hq
      | p + 2, hq =>
        revert hq
        show (bif stops.elem p then mm_Z C (p + 2) lv st M N else mm_run c stops (mm_Z C) n p lv st M N) → mm_W C p lv st M N
        cases stops.elem p with
        | true => exact fun h => h
        | false => exact fun h => mm_go hc stops n p lv st M N h
/-! the transformers -/
def mm_get : mm_L → Nat → Option Value
  | [], _ => none
  | a :: _, 0 => a
  | _ :: r, n + 1 => mm_get r n
theorem mm_get_eq : ∀ {lv : mm_L} {i : Nat} {v : Value}, mm_get lv i = some v → lv[i]? = some (some v)
  | [], _, _, h => by cases h
  | _ :: _, 0, _, h => by
    rw [List.getElem?_cons_zero]
    exact congrArg some h
  | _ :: r, n + 1, _, h => by
    rw [List.getElem?_cons_succ]
    exact mm_get_eq (lv := r) h
/-- a store of one slot: a long whose second half it takes is gone -/
def mm_set : mm_L → Nat → Value → mm_L
  | [], _, _ => []
  | _ :: r, 0, v => some v :: r
  | a :: r, 1, v => (match a with
    | some (.long _) => none
    | some (.double _) => none
    | b => b) :: mm_set r 0 v
  | a :: r, n + 2, v => a :: mm_set r (n + 1) v
def mm_setK : mm_L → Nat → Value → (mm_L → Prop) → Prop
  | [], _, _, k => k []
  | _ :: r, 0, v, k => k (some v :: r)
  | a :: r, 1, v, k => (match a with
    | some (.long _) => mm_setK r 0 v (fun r' => k (none :: r'))
    | some (.double _) => mm_setK r 0 v (fun r' => k (none :: r'))
    | b => mm_setK r 0 v (fun r' => k (b :: r')))
  | a :: r, n + 2, v, k => mm_setK r (n + 1) v (fun r' => k (a :: r'))
theorem mm_setK_eq : ∀ (lv : mm_L) (i : Nat) (v : Value) (k : mm_L → Prop), mm_setK lv i v k → k (mm_set lv i v)
  | [], _, _, _, h => h
  | _ :: _, 0, _, _, h => h
  | a :: r, 1, v, k, h => by
    unfold mm_setK at h
    unfold mm_set
    split at h
    · exact mm_setK_eq r 0 v _ h
    · exact mm_setK_eq r 0 v _ h
    · next b h1 h2 =>
      exact mm_setK_eq r 0 v _ h
  | a :: r, n + 2, v, k, h => mm_setK_eq r (n + 1) v (fun r' => k (a :: r')) h
/-- the second slot of a long -/
def mm_clr : mm_L → Nat → mm_L
  | [], _ => []
  | _ :: r, 0 => none :: r
  | a :: r, n + 1 => a :: mm_clr r n
def mm_clrK : mm_L → Nat → (mm_L → Prop) → Prop
  | [], _, k => k []
  | _ :: r, 0, k => k (none :: r)
  | a :: r, n + 1, k => mm_clrK r n (fun r' => k (a :: r'))
theorem mm_clrK_eq : ∀ (lv : mm_L) (i : Nat) (k : mm_L → Prop), mm_clrK lv i k → k (mm_clr lv i)
  | [], _, _, h => h
  | _ :: _, 0, _, h => h
  | a :: r, n + 1, k, h => mm_clrK_eq r n (fun r' => k (a :: r')) h
theorem mm_set_len : ∀ (lv : mm_L) (i : Nat) (v : Value), (mm_set lv i v).length = lv.length
  | [], _, _ => rfl
  | _ :: _, 0, _ => rfl
  | _ :: r, 1, v => by simp [mm_set, mm_set_len r 0 v]
  | _ :: r, n + 2, v => by simp [mm_set, mm_set_len r (n + 1) v]
theorem mm_clr_len : ∀ (lv : mm_L) (i : Nat), (mm_clr lv i).length = lv.length
  | [], _ => rfl
  | _ :: _, 0 => rfl
  | _ :: r, n + 1 => by simp [mm_clr, mm_clr_len r n]
theorem mm_set_at : ∀ (lv : mm_L) (i : Nat) (v : Value) (j : Nat) (w : Value), (mm_set lv i v)[j]? = some (some w) → (j = i ∧ w = v) ∨ (j ≠ i ∧ lv[j]? = some (some w) ∧ (j + 1 = i → w.category = 1))
  | [], _, _, _, _, h => by simp [mm_set] at h
  | _ :: _, 0, _, 0, _, h => by
    simp [mm_set] at h
    exact Or.inl ⟨rfl, h.symm⟩
  | _ :: _, 0, _, j + 1, _, h => by
    simp [mm_set] at h
    exact Or.inr ⟨by omega, by simpa using h, by omega⟩
  | a :: r, 1, v, 0, w, h => by
    refine Or.inr ⟨by omega, ?_⟩
    simp only [mm_set, List.getElem?_cons_zero, Option.some.injEq] at h
    split at h
    · cases h
    · cases h
    · next b h1 h2 =>
      subst h
      refine ⟨rfl, fun _ => ?_⟩
      cases w <;> first | rfl | exact absurd rfl (h1 _) | exact absurd rfl (h2 _)
  | a :: r, 1, v, j + 1, w, h => by
    simp only [mm_set, List.getElem?_cons_succ] at h
    rcases mm_set_at r 0 v j w h with ⟨e1, e2⟩ | ⟨e1, e2, e3⟩
    · exact Or.inl ⟨by omega, e2⟩
    · exact Or.inr ⟨by omega, by simpa using e2, by omega⟩
  | a :: r, n + 2, v, 0, w, h => by
    simp only [mm_set, List.getElem?_cons_zero] at h
    exact Or.inr ⟨by omega, by simpa using h, by omega⟩
  | a :: r, n + 2, v, j + 1, w, h => by
    simp only [mm_set, List.getElem?_cons_succ] at h
    rcases mm_set_at r (n + 1) v j w h with ⟨e1, e2⟩ | ⟨e1, e2, e3⟩
    · exact Or.inl ⟨by omega, e2⟩
    · exact Or.inr ⟨by omega, by simpa using e2, fun e => e3 (by omega)⟩
theorem mm_clr_at : ∀ (lv : mm_L) (i j : Nat) (w : Value), (mm_clr lv i)[j]? = some (some w) → j ≠ i ∧ lv[j]? = some (some w)
  | [], _, _, _, h => by simp [mm_clr] at h
  | _ :: _, 0, 0, _, h => by simp [mm_clr] at h
  | _ :: _, 0, j + 1, _, h => ⟨by omega, by simpa [mm_clr] using h⟩
  | _ :: _, n + 1, 0, _, h => ⟨by omega, by simpa [mm_clr] using h⟩
  | _ :: r, n + 1, j + 1, w, h => by
    simp only [mm_clr, List.getElem?_cons_succ] at h
    obtain ⟨h1, h2⟩ := mm_clr_at r n j w h
    exact ⟨by omega, by simpa using h2⟩
/-- the locals as the kit's list -/
def mm_as (ad : Nat → Nat) : Nat → mm_L → List (Nat × Value)
  | _, [] => []
  | i, none :: r => mm_as ad (i + 1) r
  | i, some v :: r => (i, mm_v ad v) :: mm_as ad (i + 1) r
theorem mm_as_mem {ad : Nat → Nat} : ∀ {lv : mm_L} {n : Nat} {q : Nat × Value}, q ∈ mm_as ad n lv → ∃ (j : Nat) (v : Value), q = (n + j, mm_v ad v) ∧ lv[j]? = some (some v)
  | [], _, _, h => by cases h
  | none :: r, n, q, h => by
    obtain ⟨j, v, e, e2⟩ := mm_as_mem (lv := r) (n := n + 1) h
    exact ⟨j + 1, v, by rw [e]; congr 1; omega, by simpa using e2⟩
  | some w :: r, n, q, h => by
    rcases List.mem_cons.mp h with h | h
    · exact ⟨0, w, h, rfl⟩
    · obtain ⟨j, v, e, e2⟩ := mm_as_mem (lv := r) (n := n + 1) h
      exact ⟨j + 1, v, by rw [e]; congr 1; omega, by simpa using e2⟩
theorem mm_as_in {ad : Nat → Nat} : ∀ {lv : mm_L} {n j : Nat} {v : Value}, lv[j]? = some (some v) → (n + j, mm_v ad v) ∈ mm_as ad n lv
  | [], _, _, _, h => by simp at h
  | none :: r, n, 0, v, h => by simp at h
  | none :: r, n, j + 1, v, h => by
    have := mm_as_in (ad := ad) (lv := r) (n := n + 1) (j := j) (v := v) (by simpa using h)
    rw [show n + (j + 1) = n + 1 + j by omega]
    exact this
  | some w :: r, n, 0, v, h => by
    simp at h
    rw [h]
    exact List.mem_cons_self
  | some w :: r, n, j + 1, v, h => by
    have := mm_as_in (ad := ad) (lv := r) (n := n + 1) (j := j) (v := v) (by simpa using h)
    rw [show n + (j + 1) = n + 1 + j by omega]
    exact List.mem_cons_of_mem _ this
theorem mm_lv.has {ad : Nat → Nat} {ls : Array Slot} {lv : mm_L} (h : mm_lv ad ls lv) : lv_has ls lv.length (mm_as ad 0 lv) := by
  refine ⟨h.2.1, h.1, fun q hq => ?_⟩
  obtain ⟨j, v, e, e2⟩ := mm_as_mem hq
  rw [e, Nat.zero_add]
  exact h.2.2 j v e2
theorem mm_lv.of1 {ad : Nat → Nat} {ls' : Array Slot} {lv : mm_L} {i : Nat} {v : Value} (h : lv_has ls' lv.length ((i, mm_v ad v) :: (mm_as ad 0 lv).filter (fun q => !(q.1 == i) && !(q.1 + 1 == i && q.2.category == 2)))) : mm_lv ad ls' (mm_set lv i v) := by
  refine ⟨h.2.1, by rw [mm_set_len]; exact h.1, fun j w hw => ?_⟩
  rcases mm_set_at lv i v j w hw with ⟨e1, e2⟩ | ⟨e1, e2, e3⟩
  · rw [e1, e2]
    exact h.2.2 (i, mm_v ad v) List.mem_cons_self
  · have hm : (j, mm_v ad w) ∈ mm_as ad 0 lv := by
      have := mm_as_in (ad := ad) (n := 0) e2
      rwa [Nat.zero_add] at this
    refine h.2.2 (j, mm_v ad w) (List.mem_cons_of_mem _ (List.mem_filter.mpr ⟨hm, ?_⟩))
    rw [mm_v_cat]
    by_cases hj : j + 1 = i
    · simp [e1, e3 hj]
    · simp [e1, hj]
theorem mm_lv.of2 {ad : Nat → Nat} {ls' : Array Slot} {lv : mm_L} {i : Nat} {v : Value} (h : lv_has ls' lv.length ((i, mm_v ad v) :: (mm_as ad 0 lv).filter (fun q => !(q.1 == i) && (!(q.1 == i + 1) && !(q.1 + 1 == i && q.2.category == 2))))) : mm_lv ad ls' (mm_clr (mm_set lv i v) (i + 1)) := by
  refine ⟨h.2.1, by rw [mm_clr_len, mm_set_len]; exact h.1, fun j w hw => ?_⟩
  obtain ⟨h0, hw⟩ := mm_clr_at _ _ _ _ hw
  rcases mm_set_at lv i v j w hw with ⟨e1, e2⟩ | ⟨e1, e2, e3⟩
  · rw [e1, e2]
    exact h.2.2 (i, mm_v ad v) List.mem_cons_self
  · have hm : (j, mm_v ad w) ∈ mm_as ad 0 lv := by
      have := mm_as_in (ad := ad) (n := 0) e2
      rwa [Nat.zero_add] at this
    refine h.2.2 (j, mm_v ad w) (List.mem_cons_of_mem _ (List.mem_filter.mpr ⟨hm, ?_⟩))
    rw [mm_v_cat]
    by_cases hj : j + 1 = i
    · simp [e1, e3 hj, h0]
    · simp [e1, hj, h0]
theorem mm_ok.set {M : mm_M} {lv : mm_L} {st : List Value} {v : Value} {i : Nat} (h : mm_ok M lv (v :: st)) : mm_ok M (mm_set lv i v) st := by
  refine ⟨fun w hw => h.1 w (List.mem_cons_of_mem _ hw), fun j w hw => ?_⟩
  rcases mm_set_at lv i v j w hw with ⟨-, e2⟩ | ⟨-, e2, -⟩
  · rw [e2]; exact h.1 v List.mem_cons_self
  · exact h.2 j w e2
theorem mm_ok.clr {M : mm_M} {lv : mm_L} {st : List Value} {i : Nat} (h : mm_ok M lv st) : mm_ok M (mm_clr lv i) st := ⟨h.1, fun j w hw => h.2 j w (mm_clr_at _ _ _ _ hw).2⟩
theorem mm_vk_i {M : mm_M} (x : Int32) : mm_vk M (.int x) := fun b h => by cases h
theorem mm_vk_l {M : mm_M} (x : Int64) : mm_vk M (.long x) := fun b h => by cases h
theorem mm_vk_n {M : mm_M} : mm_vk M .null := fun b h => by cases h
theorem mm_ok.push {M : mm_M} {lv : mm_L} {st : List Value} {v : Value} (h : mm_ok M lv st) (hv : mm_vk M v) : mm_ok M lv (v :: st) := ⟨fun w hw => (List.mem_cons.mp hw).elim (fun e => by rw [e]; exact hv) (h.1 w), h.2⟩
theorem mm_ok.pop {M : mm_M} {lv : mm_L} {st : List Value} {v : Value} (h : mm_ok M lv (v :: st)) : mm_ok M lv st := ⟨fun w hw => h.1 w (List.mem_cons_of_mem _ hw), h.2⟩
theorem mm_ok.top {M : mm_M} {lv : mm_L} {st : List Value} {v : Value} (h : mm_ok M lv (v :: st)) : mm_vk M v := h.1 v List.mem_cons_self
theorem mm_S.st {C : mm_C} {lv : mm_L} {st st' : List Value} {M : mm_M} {N : mm_N} {ad : Nat → Nat} {H : Heap} {locs : List Loc} {ls : Array Slot} (h : mm_S C lv st M N ad H locs ls) (hk : mm_ok M lv st → mm_ok M lv st') : mm_S C lv st' M N ad H locs ls := ⟨h.1, h.2.1, h.2.2.1, h.2.2.2.1, h.2.2.2.2.1, hk h.2.2.2.2.2.1, h.2.2.2.2.2.2⟩
theorem mm_S.lv {C : mm_C} {lv lv' : mm_L} {st st' : List Value} {M : mm_M} {N : mm_N} {ad : Nat → Nat} {H : Heap} {locs : List Loc} {ls ls' : Array Slot} (h : mm_S C lv st M N ad H locs ls) (hl : mm_lv ad ls' lv') (hz : lv'.length = lv.length) (hk : mm_ok M lv' st') : mm_S C lv' st' M N ad H locs ls' := ⟨h.1, h.2.1, h.2.2.1, hl, by rw [hl.2.1, hz, ← h.2.2.2.1.2.1]; exact h.2.2.2.2.1, hk, h.2.2.2.2.2.2⟩
