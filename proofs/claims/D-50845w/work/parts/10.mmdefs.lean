/-! ===== MM, definitions: virtual heaps; the machine seen through them ===== -/
set_option maxRecDepth 100000
/-- kind, length, ints, refs, longs, doubles by (address, place); next address; cells and slots made so far -/
abbrev zH : Type := (Nat → Nat) × (Nat → Nat) × (Nat → Nat → Int32) × (Nat → Nat → Option Nat) × (Nat → Nat → Int64) × (Nat → Nat → UInt64) × Nat × Nat × Nat
def zK (h : zH) : Nat → Nat := h.1
def zZ (h : zH) : Nat → Nat := h.2.1
def zI (h : zH) : Nat → Nat → Int32 := h.2.2.1
def zR (h : zH) : Nat → Nat → Option Nat := h.2.2.2.1
def zL (h : zH) : Nat → Nat → Int64 := h.2.2.2.2.1
def zD (h : zH) : Nat → Nat → UInt64 := h.2.2.2.2.2.1
def zN (h : zH) : Nat := h.2.2.2.2.2.2.1
def zC (h : zH) : Nat := h.2.2.2.2.2.2.2.1
def zU (h : zH) : Nat := h.2.2.2.2.2.2.2.2
def zu2 {α : Type} (f : Nat → Nat → α) (a k : Nat) (x : α) : Nat → Nat → α := fun b j => if b = a ∧ j = k then x else f b j
def sI (h : zH) (a k : Nat) (x : Int32) : zH := (zK h, zZ h, zu2 (zI h) a k x, zR h, zL h, zD h, zN h, zC h, zU h)
def sR (h : zH) (a k : Nat) (x : Option Nat) : zH := (zK h, zZ h, zI h, zu2 (zR h) a k x, zL h, zD h, zN h, zC h, zU h)
def sL (h : zH) (a k : Nat) (x : Int64) : zH := (zK h, zZ h, zI h, zR h, zu2 (zL h) a k x, zD h, zN h, zC h, zU h)
def sD (h : zH) (a k : Nat) (x : UInt64) : zH := (zK h, zZ h, zI h, zR h, zL h, zu2 (zD h) a k x, zN h, zC h, zU h)
/-- a new cell of kind k, length n, sl slots -/
def sN (h : zH) (k n sl : Nat) : zH := (fun b => if b = zN h then k else zK h b, fun b => if b = zN h then n else zZ h b, fun b j => if b = zN h then 0 else zI h b j, fun b j => if b = zN h then none else zR h b j,
  fun b j => if b = zN h then 0 else zL h b j, fun b j => if b = zN h then 0 else zD h b j, zN h + 1, zC h + 1, zU h + sl)
def zLe (h h' : zH) : Prop := zN h ≤ zN h' ∧ zC h ≤ zC h' ∧ zU h ≤ zU h' ∧ (∀ a, a < zN h → zK h' a = zK h a ∧ zZ h' a = zZ h a) ∧
  ∀ a, a < 64 → ∀ j, zI h' a j = zI h a j ∧ zR h' a j = zR h a j ∧ zL h' a j = zL h a j ∧ zD h' a j = zD h a j
/-- a field's value by its type -/
def zV0 (h : zH) (a k : Nat) : FieldType → Value
  | .long => .long (zL h a k)
  | .double => .double (zD h a k)
  | .object _ => va_rf (zR h a k)
  | .array _ => va_rf (zR h a k)
  | .float => .float 0
  | _ => .int (zI h a k)
def ze (ρ : Nat → Nat) : Value → Value
  | .ref a => .ref (ρ a)
  | v => v
def zel (ρ : Nat → Nat) (q : Nat × Value) : Nat × Value := (q.1, ze ρ q.2)
/-- the global data of a run: launch, classes' numbers and slots, array classes, size of the heap at the start, the constants' addresses, the lambdas' classes, which of the opaque statics are null -/
abbrev zG : Type := Launch × va_G × (Nat → ClassId) × Nat × (Nat → Nat) × (Nat → ClassId) × (Nat → Bool)
def gL (G : zG) : Launch := G.1
def gD (G : zG) : va_G := G.2.1
def gA (G : zG) : Nat → ClassId := G.2.2.1
def gS (G : zG) : Nat := G.2.2.2.1
def gC (G : zG) : Nat → Nat := G.2.2.2.2.1
def gM (G : zG) : Nat → ClassId := G.2.2.2.2.2.1
def gO (G : zG) (k : Nat) : Value := if G.2.2.2.2.2.2 k = true then .null else .ref k
/-- the cells that a run may change -/
def zA (G : zG) : Nat → Prop := fun q => gS G ≤ q
def zat : Nat → FieldType := fun t => match t with
  | 0 => .int
  | 1 => .byte
  | 2 => .boolean
  | 3 => .long
  | 4 => .double
  | 5 => .object "CopyPrices$Link"
  | _ => .object "java/lang/Object"
def zTys (G : zG) : List (ClassId × FieldType) := (List.range 7).map (fun t => (gA G t, zat t))
/-- 0 CopyPrices, 1 World, 2 Table, 3 Model, 4 Reader, 5 TextError, 6 Link, 7 Literal, 8 Copy, 9 ArrayDeque, 10 StringBuilder, 11 String, 12.. exceptions of the JDK, 16 Unsafe (of which no field is told) -/
def zCl : List vw_C := [(RX1, TX1, 9), (RX2, TX2, 7), (RX3, TX3, 6), (RX4, TX4, 27), (RX5, TX5, 11), (RX6, TX6, 8), (RX7, TX7, 2), (RX9, TX9, 4), (RX10, TX10, 6), (RJ17, TJ17, 3), (RJ6, TJ6, 4), (RJ7, TJ7, 4), (RJ4, TJ4, 0), (RJ14, TJ14, 0), (RJ21, TJ21, 0), (RJ20, TJ20, 0), (RJ19, TX7, 0)]
def zTy : Nat → Nat → FieldType := fun c => match c with
  | 0 => tyX1
  | 1 => tyX2
  | 2 => tyX3
  | 3 => tyX4
  | 4 => tyX5
  | 5 => tyX6
  | 6 => tyX7
  | 7 => tyX9
  | 8 => tyX10
  | 9 => tyJ17
  | 10 => tyJ6
  | 11 => tyJ7
  | 12 => tyJ4
  | 13 => tyJ14
  | 14 => tyJ21
  | 15 => tyJ20
  | _ => tyX7
/-- the lambdas' sites: method, place, entry, shape -/
def zSite : Nat → MethodName × Nat × Nat × Jvm.Lambda.Shape := fun k => match k with
  | 0 => (({ cls := "CopyPrices$World", name := "chooser", desc := "(ILCopyPrices$Table;)LCopyPrices$Chooser;" } : Jvm.MethodName), (29 : Nat), (164 : Nat), ({ iface := "CopyPrices$Chooser", name := "at", sam := ({ parameters := [Jvm.ClassFile.FieldType.int, Jvm.ClassFile.FieldType.int, Jvm.ClassFile.FieldType.boolean], returnType := (Option.some (Jvm.ClassFile.FieldType.object "CopyPrices$Step")) } : Jvm.ClassFile.MethodDescriptor), captured := [(Jvm.ClassFile.FieldType.object "CopyPrices$World")], kind := 5, implClass := "CopyPrices$World", implName := "lambda$chooser$0", implDesc := ({ parameters := [Jvm.ClassFile.FieldType.int, Jvm.ClassFile.FieldType.int, Jvm.ClassFile.FieldType.boolean], returnType := (Option.some (Jvm.ClassFile.FieldType.object "CopyPrices$Step")) } : Jvm.ClassFile.MethodDescriptor), implItf := false, inst := ({ parameters := [Jvm.ClassFile.FieldType.int, Jvm.ClassFile.FieldType.int, Jvm.ClassFile.FieldType.boolean], returnType := (Option.some (Jvm.ClassFile.FieldType.object "CopyPrices$Step")) } : Jvm.ClassFile.MethodDescriptor) } : Jvm.Lambda.Shape))
  | 1 => (({ cls := "CopyPrices$World", name := "chooser", desc := "(ILCopyPrices$Table;)LCopyPrices$Chooser;" } : Jvm.MethodName), (38 : Nat), (167 : Nat), ({ iface := "CopyPrices$Chooser", name := "at", sam := ({ parameters := [Jvm.ClassFile.FieldType.int, Jvm.ClassFile.FieldType.int, Jvm.ClassFile.FieldType.boolean], returnType := (Option.some (Jvm.ClassFile.FieldType.object "CopyPrices$Step")) } : Jvm.ClassFile.MethodDescriptor), captured := [(Jvm.ClassFile.FieldType.object "CopyPrices$World")], kind := 5, implClass := "CopyPrices$World", implName := "lambda$chooser$1", implDesc := ({ parameters := [Jvm.ClassFile.FieldType.int, Jvm.ClassFile.FieldType.int, Jvm.ClassFile.FieldType.boolean], returnType := (Option.some (Jvm.ClassFile.FieldType.object "CopyPrices$Step")) } : Jvm.ClassFile.MethodDescriptor), implItf := false, inst := ({ parameters := [Jvm.ClassFile.FieldType.int, Jvm.ClassFile.FieldType.int, Jvm.ClassFile.FieldType.boolean], returnType := (Option.some (Jvm.ClassFile.FieldType.object "CopyPrices$Step")) } : Jvm.ClassFile.MethodDescriptor) } : Jvm.Lambda.Shape))
  | 2 => (({ cls := "CopyPrices$World", name := "chooser", desc := "(ILCopyPrices$Table;)LCopyPrices$Chooser;" } : Jvm.MethodName), (47 : Nat), (168 : Nat), ({ iface := "CopyPrices$Chooser", name := "at", sam := ({ parameters := [Jvm.ClassFile.FieldType.int, Jvm.ClassFile.FieldType.int, Jvm.ClassFile.FieldType.boolean], returnType := (Option.some (Jvm.ClassFile.FieldType.object "CopyPrices$Step")) } : Jvm.ClassFile.MethodDescriptor), captured := [(Jvm.ClassFile.FieldType.object "CopyPrices$World")], kind := 5, implClass := "CopyPrices$World", implName := "lambda$chooser$2", implDesc := ({ parameters := [Jvm.ClassFile.FieldType.int, Jvm.ClassFile.FieldType.int, Jvm.ClassFile.FieldType.boolean], returnType := (Option.some (Jvm.ClassFile.FieldType.object "CopyPrices$Step")) } : Jvm.ClassFile.MethodDescriptor), implItf := false, inst := ({ parameters := [Jvm.ClassFile.FieldType.int, Jvm.ClassFile.FieldType.int, Jvm.ClassFile.FieldType.boolean], returnType := (Option.some (Jvm.ClassFile.FieldType.object "CopyPrices$Step")) } : Jvm.ClassFile.MethodDescriptor) } : Jvm.Lambda.Shape))
  | 3 => (({ cls := "CopyPrices$Table", name := "chooser", desc := "()LCopyPrices$Chooser;" } : Jvm.MethodName), (1 : Nat), (102 : Nat), ({ iface := "CopyPrices$Chooser", name := "at", sam := ({ parameters := [Jvm.ClassFile.FieldType.int, Jvm.ClassFile.FieldType.int, Jvm.ClassFile.FieldType.boolean], returnType := (Option.some (Jvm.ClassFile.FieldType.object "CopyPrices$Step")) } : Jvm.ClassFile.MethodDescriptor), captured := [(Jvm.ClassFile.FieldType.object "CopyPrices$Table")], kind := 5, implClass := "CopyPrices$Table", implName := "lambda$chooser$0", implDesc := ({ parameters := [Jvm.ClassFile.FieldType.int, Jvm.ClassFile.FieldType.int, Jvm.ClassFile.FieldType.boolean], returnType := (Option.some (Jvm.ClassFile.FieldType.object "CopyPrices$Step")) } : Jvm.ClassFile.MethodDescriptor), implItf := false, inst := ({ parameters := [Jvm.ClassFile.FieldType.int, Jvm.ClassFile.FieldType.int, Jvm.ClassFile.FieldType.boolean], returnType := (Option.some (Jvm.ClassFile.FieldType.object "CopyPrices$Step")) } : Jvm.ClassFile.MethodDescriptor) } : Jvm.Lambda.Shape))
  | 4 => (({ cls := "CopyPrices", name := "agree", desc := "()Z" } : Jvm.MethodName), (42 : Nat), (316 : Nat), ({ iface := "CopyPrices$Asked", name := "of", sam := ({ parameters := [(Jvm.ClassFile.FieldType.object "CopyPrices$Step")], returnType := (Option.some Jvm.ClassFile.FieldType.int) } : Jvm.ClassFile.MethodDescriptor), captured := [], kind := 6, implClass := "CopyPrices", implName := "lambda$agree$10", implDesc := ({ parameters := [(Jvm.ClassFile.FieldType.object "CopyPrices$Step")], returnType := (Option.some Jvm.ClassFile.FieldType.int) } : Jvm.ClassFile.MethodDescriptor), implItf := false, inst := ({ parameters := [(Jvm.ClassFile.FieldType.object "CopyPrices$Step")], returnType := (Option.some Jvm.ClassFile.FieldType.int) } : Jvm.ClassFile.MethodDescriptor) } : Jvm.Lambda.Shape))
  | 5 => (({ cls := "CopyPrices$World", name := "priceOf", desc := "(ILCopyPrices$Table;)I" } : Jvm.MethodName), (19 : Nat), (190 : Nat), ({ iface := "CopyPrices$Asked", name := "of", sam := ({ parameters := [(Jvm.ClassFile.FieldType.object "CopyPrices$Step")], returnType := (Option.some Jvm.ClassFile.FieldType.int) } : Jvm.ClassFile.MethodDescriptor), captured := [], kind := 6, implClass := "CopyPrices$World", implName := "lambda$priceOf$3", implDesc := ({ parameters := [(Jvm.ClassFile.FieldType.object "CopyPrices$Step")], returnType := (Option.some Jvm.ClassFile.FieldType.int) } : Jvm.ClassFile.MethodDescriptor), implItf := false, inst := ({ parameters := [(Jvm.ClassFile.FieldType.object "CopyPrices$Step")], returnType := (Option.some Jvm.ClassFile.FieldType.int) } : Jvm.ClassFile.MethodDescriptor) } : Jvm.Lambda.Shape))
  | 6 => (({ cls := "CopyPrices", name := "count", desc := "(I)I" } : Jvm.MethodName), (73 : Nat), (155 : Nat), ({ iface := "CopyPrices$Sight", name := "of", sam := ({ parameters := [Jvm.ClassFile.FieldType.int], returnType := (Option.some Jvm.ClassFile.FieldType.int) } : Jvm.ClassFile.MethodDescriptor), captured := [(Jvm.ClassFile.FieldType.object "CopyPrices")], kind := 5, implClass := "CopyPrices", implName := "lambda$count$0", implDesc := ({ parameters := [Jvm.ClassFile.FieldType.int], returnType := (Option.some Jvm.ClassFile.FieldType.int) } : Jvm.ClassFile.MethodDescriptor), implItf := false, inst := ({ parameters := [Jvm.ClassFile.FieldType.int], returnType := (Option.some Jvm.ClassFile.FieldType.int) } : Jvm.ClassFile.MethodDescriptor) } : Jvm.Lambda.Shape))
  | 7 => (({ cls := "CopyPrices", name := "count", desc := "(I)I" } : Jvm.MethodName), (86 : Nat), (162 : Nat), ({ iface := "CopyPrices$Sight", name := "of", sam := ({ parameters := [Jvm.ClassFile.FieldType.int], returnType := (Option.some Jvm.ClassFile.FieldType.int) } : Jvm.ClassFile.MethodDescriptor), captured := [(Jvm.ClassFile.FieldType.object "CopyPrices")], kind := 5, implClass := "CopyPrices", implName := "lambda$count$1", implDesc := ({ parameters := [Jvm.ClassFile.FieldType.int], returnType := (Option.some Jvm.ClassFile.FieldType.int) } : Jvm.ClassFile.MethodDescriptor), implItf := false, inst := ({ parameters := [Jvm.ClassFile.FieldType.int], returnType := (Option.some Jvm.ClassFile.FieldType.int) } : Jvm.ClassFile.MethodDescriptor) } : Jvm.Lambda.Shape))
  | 8 => (({ cls := "CopyPrices", name := "count", desc := "(I)I" } : Jvm.MethodName), (99 : Nat), (163 : Nat), ({ iface := "CopyPrices$Sight", name := "of", sam := ({ parameters := [Jvm.ClassFile.FieldType.int], returnType := (Option.some Jvm.ClassFile.FieldType.int) } : Jvm.ClassFile.MethodDescriptor), captured := [(Jvm.ClassFile.FieldType.object "CopyPrices")], kind := 5, implClass := "CopyPrices", implName := "lambda$count$2", implDesc := ({ parameters := [Jvm.ClassFile.FieldType.int], returnType := (Option.some Jvm.ClassFile.FieldType.int) } : Jvm.ClassFile.MethodDescriptor), implItf := false, inst := ({ parameters := [Jvm.ClassFile.FieldType.int], returnType := (Option.some Jvm.ClassFile.FieldType.int) } : Jvm.ClassFile.MethodDescriptor) } : Jvm.Lambda.Shape))
  | 9 => (({ cls := "CopyPrices", name := "steps", desc := "(I)I" } : Jvm.MethodName), (5 : Nat), (243 : Nat), ({ iface := "CopyPrices$Asked", name := "of", sam := ({ parameters := [(Jvm.ClassFile.FieldType.object "CopyPrices$Step")], returnType := (Option.some Jvm.ClassFile.FieldType.int) } : Jvm.ClassFile.MethodDescriptor), captured := [], kind := 6, implClass := "CopyPrices", implName := "lambda$steps$3", implDesc := ({ parameters := [(Jvm.ClassFile.FieldType.object "CopyPrices$Step")], returnType := (Option.some Jvm.ClassFile.FieldType.int) } : Jvm.ClassFile.MethodDescriptor), implItf := false, inst := ({ parameters := [(Jvm.ClassFile.FieldType.object "CopyPrices$Step")], returnType := (Option.some Jvm.ClassFile.FieldType.int) } : Jvm.ClassFile.MethodDescriptor) } : Jvm.Lambda.Shape))
  | 10 => (({ cls := "CopyPrices", name := "stepAt", desc := "(II)I" } : Jvm.MethodName), (13 : Nat), (269 : Nat), ({ iface := "CopyPrices$Asked", name := "of", sam := ({ parameters := [(Jvm.ClassFile.FieldType.object "CopyPrices$Step")], returnType := (Option.some Jvm.ClassFile.FieldType.int) } : Jvm.ClassFile.MethodDescriptor), captured := [Jvm.ClassFile.FieldType.int], kind := 6, implClass := "CopyPrices", implName := "lambda$stepAt$4", implDesc := ({ parameters := [Jvm.ClassFile.FieldType.int, (Jvm.ClassFile.FieldType.object "CopyPrices$Step")], returnType := (Option.some Jvm.ClassFile.FieldType.int) } : Jvm.ClassFile.MethodDescriptor), implItf := false, inst := ({ parameters := [(Jvm.ClassFile.FieldType.object "CopyPrices$Step")], returnType := (Option.some Jvm.ClassFile.FieldType.int) } : Jvm.ClassFile.MethodDescriptor) } : Jvm.Lambda.Shape))
  | 11 => (({ cls := "CopyPrices", name := "parse", desc := "(II)I" } : Jvm.MethodName), (85 : Nat), (278 : Nat), ({ iface := "CopyPrices$Asked", name := "of", sam := ({ parameters := [(Jvm.ClassFile.FieldType.object "CopyPrices$Step")], returnType := (Option.some Jvm.ClassFile.FieldType.int) } : Jvm.ClassFile.MethodDescriptor), captured := [], kind := 6, implClass := "CopyPrices", implName := "lambda$parse$5", implDesc := ({ parameters := [(Jvm.ClassFile.FieldType.object "CopyPrices$Step")], returnType := (Option.some Jvm.ClassFile.FieldType.int) } : Jvm.ClassFile.MethodDescriptor), implItf := false, inst := ({ parameters := [(Jvm.ClassFile.FieldType.object "CopyPrices$Step")], returnType := (Option.some Jvm.ClassFile.FieldType.int) } : Jvm.ClassFile.MethodDescriptor) } : Jvm.Lambda.Shape))
  | 12 => (({ cls := "CopyPrices", name := "parse", desc := "(II)I" } : Jvm.MethodName), (97 : Nat), (279 : Nat), ({ iface := "CopyPrices$Asked", name := "of", sam := ({ parameters := [(Jvm.ClassFile.FieldType.object "CopyPrices$Step")], returnType := (Option.some Jvm.ClassFile.FieldType.int) } : Jvm.ClassFile.MethodDescriptor), captured := [], kind := 6, implClass := "CopyPrices", implName := "lambda$parse$6", implDesc := ({ parameters := [(Jvm.ClassFile.FieldType.object "CopyPrices$Step")], returnType := (Option.some Jvm.ClassFile.FieldType.int) } : Jvm.ClassFile.MethodDescriptor), implItf := false, inst := ({ parameters := [(Jvm.ClassFile.FieldType.object "CopyPrices$Step")], returnType := (Option.some Jvm.ClassFile.FieldType.int) } : Jvm.ClassFile.MethodDescriptor) } : Jvm.Lambda.Shape))
  | 13 => (({ cls := "CopyPrices", name := "parse", desc := "(II)I" } : Jvm.MethodName), (109 : Nat), (280 : Nat), ({ iface := "CopyPrices$Asked", name := "of", sam := ({ parameters := [(Jvm.ClassFile.FieldType.object "CopyPrices$Step")], returnType := (Option.some Jvm.ClassFile.FieldType.int) } : Jvm.ClassFile.MethodDescriptor), captured := [], kind := 6, implClass := "CopyPrices", implName := "lambda$parse$7", implDesc := ({ parameters := [(Jvm.ClassFile.FieldType.object "CopyPrices$Step")], returnType := (Option.some Jvm.ClassFile.FieldType.int) } : Jvm.ClassFile.MethodDescriptor), implItf := false, inst := ({ parameters := [(Jvm.ClassFile.FieldType.object "CopyPrices$Step")], returnType := (Option.some Jvm.ClassFile.FieldType.int) } : Jvm.ClassFile.MethodDescriptor) } : Jvm.Lambda.Shape))
  | 14 => (({ cls := "CopyPrices", name := "parse", desc := "(II)I" } : Jvm.MethodName), (128 : Nat), (285 : Nat), ({ iface := "CopyPrices$Asked", name := "of", sam := ({ parameters := [(Jvm.ClassFile.FieldType.object "CopyPrices$Step")], returnType := (Option.some Jvm.ClassFile.FieldType.int) } : Jvm.ClassFile.MethodDescriptor), captured := [], kind := 6, implClass := "CopyPrices", implName := "lambda$parse$8", implDesc := ({ parameters := [(Jvm.ClassFile.FieldType.object "CopyPrices$Step")], returnType := (Option.some Jvm.ClassFile.FieldType.int) } : Jvm.ClassFile.MethodDescriptor), implItf := false, inst := ({ parameters := [(Jvm.ClassFile.FieldType.object "CopyPrices$Step")], returnType := (Option.some Jvm.ClassFile.FieldType.int) } : Jvm.ClassFile.MethodDescriptor) } : Jvm.Lambda.Shape))
  | 15 => (({ cls := "CopyPrices", name := "parse", desc := "(II)I" } : Jvm.MethodName), (147 : Nat), (289 : Nat), ({ iface := "CopyPrices$Asked", name := "of", sam := ({ parameters := [(Jvm.ClassFile.FieldType.object "CopyPrices$Step")], returnType := (Option.some Jvm.ClassFile.FieldType.int) } : Jvm.ClassFile.MethodDescriptor), captured := [], kind := 6, implClass := "CopyPrices", implName := "lambda$parse$9", implDesc := ({ parameters := [(Jvm.ClassFile.FieldType.object "CopyPrices$Step")], returnType := (Option.some Jvm.ClassFile.FieldType.int) } : Jvm.ClassFile.MethodDescriptor), implItf := false, inst := ({ parameters := [(Jvm.ClassFile.FieldType.object "CopyPrices$Step")], returnType := (Option.some Jvm.ClassFile.FieldType.int) } : Jvm.ClassFile.MethodDescriptor) } : Jvm.Lambda.Shape))
  | 16 => (({ cls := "CopyPrices", name := "meanLength", desc := "(I)D" } : Jvm.MethodName), (7 : Nat), (340 : Nat), ({ iface := "CopyPrices$Asked", name := "of", sam := ({ parameters := [(Jvm.ClassFile.FieldType.object "CopyPrices$Step")], returnType := (Option.some Jvm.ClassFile.FieldType.int) } : Jvm.ClassFile.MethodDescriptor), captured := [], kind := 6, implClass := "CopyPrices", implName := "lambda$meanLength$11", implDesc := ({ parameters := [(Jvm.ClassFile.FieldType.object "CopyPrices$Step")], returnType := (Option.some Jvm.ClassFile.FieldType.int) } : Jvm.ClassFile.MethodDescriptor), implItf := false, inst := ({ parameters := [(Jvm.ClassFile.FieldType.object "CopyPrices$Step")], returnType := (Option.some Jvm.ClassFile.FieldType.int) } : Jvm.ClassFile.MethodDescriptor) } : Jvm.Lambda.Shape))
  | _ => (({ cls := "CopyPrices", name := "meanLength", desc := "(I)D" } : Jvm.MethodName), (17 : Nat), (341 : Nat), ({ iface := "CopyPrices$Asked", name := "of", sam := ({ parameters := [(Jvm.ClassFile.FieldType.object "CopyPrices$Step")], returnType := (Option.some Jvm.ClassFile.FieldType.int) } : Jvm.ClassFile.MethodDescriptor), captured := [], kind := 6, implClass := "CopyPrices", implName := "lambda$meanLength$12", implDesc := ({ parameters := [(Jvm.ClassFile.FieldType.object "CopyPrices$Step")], returnType := (Option.some Jvm.ClassFile.FieldType.int) } : Jvm.ClassFile.MethodDescriptor), implItf := false, inst := ({ parameters := [(Jvm.ClassFile.FieldType.object "CopyPrices$Step")], returnType := (Option.some Jvm.ClassFile.FieldType.int) } : Jvm.ClassFile.MethodDescriptor) } : Jvm.Lambda.Shape))
/-- words of the tables that don't ride in lw_all -/
def zNest : List Cond := [Jvm.Cond.castable "java/lang/IndexOutOfBoundsException" "java/lang/IndexOutOfBoundsException",
  Jvm.Cond.castable "java/util/NoSuchElementException" "java/util/NoSuchElementException",
  Jvm.Cond.castable "java/lang/IllegalStateException" "java/lang/IllegalStateException",
  Jvm.Cond.castable "java/lang/IllegalArgumentException" "java/lang/IllegalArgumentException",
  Jvm.Cond.castable "java/lang/String" "java/lang/Object",
  Jvm.Cond.fieldLinkNest "CopyPrices" (140 : Nat) "CopyPrices$World" "letters" "[B" "CopyPrices",
  Jvm.Cond.fieldLinkNest "CopyPrices" (178 : Nat) "CopyPrices$World" "settings" "[I" "CopyPrices",
  Jvm.Cond.fieldLinkNest "CopyPrices" (183 : Nat) "CopyPrices$World" "prices" "[I" "CopyPrices",
  Jvm.Cond.fieldLinkNest "CopyPrices" (122 : Nat) "CopyPrices$World" "accounts" "[I" "CopyPrices",
  Jvm.Cond.fieldLinkNest "CopyPrices" (104 : Nat) "CopyPrices$World" "many" "I" "CopyPrices",
  Jvm.Cond.fieldLinkNest "CopyPrices" (146 : Nat) "CopyPrices$World" "pins" "J" "CopyPrices",
  Jvm.Cond.methodLinkNest "CopyPrices" (42 : Nat) ({ cls := "CopyPrices$Table", name := "<init>", desc := "()V" } : Jvm.MethodName) "CopyPrices",
  Jvm.Cond.fieldLinkNest "CopyPrices" (92 : Nat) "CopyPrices$TextError" "code" "I" "CopyPrices",
  Jvm.Cond.fieldLinkNest "CopyPrices" (95 : Nat) "CopyPrices$TextError" "offset" "I" "CopyPrices",
  Jvm.Cond.fieldLinkNest "CopyPrices$World" (80 : Nat) "CopyPrices$Link" "place" "I" "CopyPrices",
  Jvm.Cond.methodLinkNest "CopyPrices$World" (110 : Nat) ({ cls := "CopyPrices", name := "bits", desc := "(I)I" } : Jvm.MethodName) "CopyPrices",
  Jvm.Cond.methodLinkNest "CopyPrices$World" (102 : Nat) ({ cls := "CopyPrices", name := "in", desc := "(JJJ)Z" } : Jvm.MethodName) "CopyPrices",
  Jvm.Cond.castable "CopyPrices$World" "java/lang/Object",
  Jvm.Cond.fieldLinkNest "CopyPrices$Table" (79 : Nat) "CopyPrices$World" "settings" "[I" "CopyPrices",
  Jvm.Cond.fieldLinkNest "CopyPrices$Table" (31 : Nat) "CopyPrices$World" "many" "I" "CopyPrices",
  Jvm.Cond.methodLinkNest "CopyPrices$Table" (64 : Nat) ({ cls := "CopyPrices", name := "one", desc := "(Z)I" } : Jvm.MethodName) "CopyPrices",
  Jvm.Cond.fieldLinkNest "CopyPrices$Reader" (142 : Nat) "CopyPrices$World" "settings" "[I" "CopyPrices",
  Jvm.Cond.fieldLinkNest "CopyPrices$Reader" (121 : Nat) "CopyPrices$World" "prices" "[I" "CopyPrices",
  Jvm.Cond.fieldLinkNest "CopyPrices$Reader" (104 : Nat) "CopyPrices$World" "many" "I" "CopyPrices",
  Jvm.Cond.fieldLinkNest "CopyPrices$Reader" (136 : Nat) "CopyPrices$World" "pins" "J" "CopyPrices",
  Jvm.Cond.fieldLinkNest "CopyPrices$Reader" (38 : Nat) "CopyPrices" "buffer" "[B" "CopyPrices",
  Jvm.Cond.fieldLinkNest "CopyPrices$Reader" (15 : Nat) "CopyPrices" "buffered" "I" "CopyPrices",
  Jvm.Cond.methodLinkNest "CopyPrices$Reader" (59 : Nat) ({ cls := "CopyPrices", name := "in", desc := "(JJJ)Z" } : Jvm.MethodName) "CopyPrices",
  Jvm.Cond.methodLinkNest "CopyPrices$Reader" (145 : Nat) ({ cls := "CopyPrices", name := "leastOf", desc := "(I)I" } : Jvm.MethodName) "CopyPrices",
  Jvm.Cond.methodLinkNest "CopyPrices$Reader" (148 : Nat) ({ cls := "CopyPrices", name := "mostOf", desc := "(I)I" } : Jvm.MethodName) "CopyPrices",
  Jvm.Cond.castable "CopyPrices$TextError" "CopyPrices$TextError",
  Jvm.Cond.declares ({ cls := "CopyPrices$Step", name := "distance", desc := "()I" } : Jvm.MethodName),
  Jvm.Cond.declares ({ cls := "CopyPrices$Step", name := "length", desc := "()I" } : Jvm.MethodName),
  Jvm.Cond.declares ({ cls := "CopyPrices$Step", name := "prints", desc := "([BLjava/lang/StringBuilder;)V" } : Jvm.MethodName),
  Jvm.Cond.declares ({ cls := "CopyPrices$Asked", name := "of", desc := "(LCopyPrices$Step;)I" } : Jvm.MethodName),
  Jvm.Cond.declares ({ cls := "CopyPrices$Chooser", name := "at", desc := "(IIZ)LCopyPrices$Step;" } : Jvm.MethodName)]
/-- String constants: class, entry, text, virtual address -/
def zStr : List (String × Nat × String × Nat) := [("CopyPrices", 56, "", 1), ("CopyPricesModel", 67, "abcabcabd", 3), ("CopyPricesModel", 305, "text", 5), ("CopyPricesModel", 310, "letter", 7), ("CopyPricesModel", 314, "pin", 9), ("CopyPricesModel", 263, "window", 11), ("CopyPricesModel", 269, "depth", 13), ("CopyPricesModel", 271, "least", 15), ("CopyPricesModel", 273, "most", 17), ("CopyPricesModel", 275, "wait", 19), ("CopyPricesModel", 277, "run", 21), ("CopyPricesModel", 279, "copy", 23), ("CopyPricesModel", 281, "far", 25), ("CopyPricesModel", 283, "long", 27), ("CopyPricesModel", 285, "again", 29), ("CopyPrices$Reader", 22, "", 1), ("CopyPrices$Reader", 96, "text", 5), ("CopyPrices$Reader", 179, "letter", 7), ("CopyPrices$Reader", 183, "pin", 9), ("CopyPrices$Reader", 154, "window", 11), ("CopyPrices$Reader", 156, "depth", 13), ("CopyPrices$Reader", 158, "least", 15), ("CopyPrices$Reader", 160, "most", 17), ("CopyPrices$Reader", 162, "wait", 19), ("CopyPrices$Reader", 164, "run", 21), ("CopyPrices$Reader", 166, "copy", 23), ("CopyPrices$Reader", 168, "far", 25), ("CopyPrices$Reader", 170, "long", 27), ("CopyPrices$Reader", 172, "again", 29)]
/-- statics that nobody writes -/
def zSts (G : zG) : List (String × String × String × Value) := [("java/lang/String", "COMPACT_STRINGS", "Z", .int 1), ("java/lang/Integer", "DigitOnes", "[B", .ref 31), ("java/lang/Integer", "DigitTens", "[B", .ref 32),
  ("jdk/internal/util/ArraysSupport", "U", "Ljdk/internal/misc/Unsafe;", .ref 33), ("jdk/internal/util/ArraysSupport", "LOG2_ARRAY_BYTE_INDEX_SCALE", "I", .int 0), ("jdk/internal/util/ArraysSupport", "LOG2_ARRAY_LONG_INDEX_SCALE", "I", .int 3),
  ("jdk/internal/util/ArraysSupport", "LOG2_BYTE_BIT_SIZE", "I", .int 3), ("jdk/internal/util/ArraysSupport", "LOG2_ARRAY_INT_INDEX_SCALE", "I", .int 2), ("jdk/internal/util/ArraysSupport", "BIG_ENDIAN", "Z", .int 0),
  ("jdk/internal/misc/Unsafe", "ARRAY_BYTE_BASE_OFFSET", "I", .int 16), ("jdk/internal/misc/UnsafeConstants", "BIG_ENDIAN", "Z", .int 0),
  ("java/lang/Throwable", "UNASSIGNED_STACK", "[Ljava/lang/StackTraceElement;", gO G 60), ("java/lang/Throwable", "SUPPRESSED_SENTINEL", "Ljava/util/List;", gO G 61), ("jdk/internal/util/Preconditions", "SIOOBE_FORMATTER", "Ljava/util/function/BiFunction;", gO G 62)]
/-- what the tables and the statics are, all through a run -/
def zInv (G : zG) (U : State) : Prop := va_K (gD G) zCl (zTys G) U ∧ (∀ w ∈ zNest, va_Nw w U) ∧ (∀ q ∈ zStr, vk_R q.1 q.2.1 q.2.2.1 (gC G q.2.2.2) U) ∧ (∀ q ∈ zSts G, va_Z q.1 q.2.1 q.2.2.1 (ze (gC G) q.2.2.2) (zA G) U U.heap) ∧
  (vx_L Bundle.tN "UNASSIGNED_STACK" Bundle.steD (zA G) U U.heap ∧ vx_L Bundle.tN "SUPPRESSED_SENTINEL" Bundle.listD (zA G) U U.heap) ∧ (gL G).stackTraces = false ∧ va_AO "CopyPrices$Link" U ∧ va_AO "java/lang/Object" U ∧
  ∀ k, k < 18 → ∃ one, U.lambdaAt? (zSite k).1 (zSite k).2.1 (zSite k).2.2.1 (zSite k).2.2.2 = some (gM G k, one) ∧ ((zSite k).2.2.2.captured = [] → one = some (gC G (40 + k)))
/-- of a lambda's site: the type of what it captures -/
def zLt (k : Nat) : Option FieldType := (zSite k).2.2.2.captured.head?
/-- what a cell of the heap is, by its kind: below 40 an object of a class of the table, 50.. an array, 60.. a lambda, else nothing is said -/
def zAt (G : zG) (ρ : Nat → Nat) (h : zH) (a : Nat) (H : Heap) : Prop :=
  (zK h a < 40 → ∃ r : vw_C, zCl[zK h a]? = some r ∧ t_OB (ρ a) ((gD G).1 (zK h a)) r.2.2 ((gD G).2 (zK h a)) H (fun j => ze ρ (zV0 h a j (zTy (zK h a) j)))) ∧
  (50 ≤ zK h a → zK h a < 57 → H[ρ a]? = some (arrV (gA G (zK h a - 50)) (zZ h a) (fun j => ze ρ (zV0 h a j (zat (zK h a - 50)))))) ∧
  (60 ≤ zK h a → zK h a < 80 → ∃ cell : Cell, H[ρ a]? = some cell ∧ cell.cls = gM G (zK h a - 60) ∧ cell.vm = .none ∧ ∀ ty, zLt (zK h a - 60) = some ty → cell.slots[0]? = some (ze ρ (zV0 h a 0 ty)))
/-- the heap H holds the virtual heap h -/
def zS (G : zG) (ρ : Nat → Nat) (h : zH) (H : Heap) : Prop := 64 ≤ zN h ∧ (∀ a, a < 64 → ρ a = gC G a ∧ ρ a < gS G) ∧ (∀ a, a < zN h → zAt G ρ h a H ∧ ρ a < H.size) ∧ (∀ a, 64 ≤ a → a < zN h → zA G (ρ a)) ∧ (∀ a, a < zN h → ∀ j x, zR h a j = some x → x < zN h) ∧
  ∀ a b, 64 ≤ a → a < zN h → 64 ≤ b → b < zN h → ρ a = ρ b → a = b
/-- a value that lies within the heap made so far -/
def zw (n : Nat) (v : Value) : Prop := ∀ a, v = .ref a → a < n
/-- a method: name, code, locals, answer, handlers -/
abbrev zY : Type := MethodName × ByteArray × Nat × Option FieldType × List (Nat × Nat × Nat × Nat)
def yN (y : zY) : MethodName := y.1
def yC (y : zY) : ByteArray := y.2.1
def yL (y : zY) : Nat := y.2.2.1
def yR (y : zY) : Option FieldType := y.2.2.2.1
def yH (y : zY) : List (Nat × Nat × Nat × Nat) := y.2.2.2.2
def zW (y : zY) : Cond := match yH y with
  | [] => .code (yN y) (yC y) (yL y) (yR y)
  | hh => .codeWith (yN y) (yC y) (yL y) (yR y) hh
def zFr (d : Nat) : Nat := d + 16
def zLo (d : Nat) : Nat := 11000 + 56 * d
def zRm (d mc ms : Nat) : Room := { frames := zFr d, cells := mc, slots := ms, locals := zLo d }
/-- answered, or thrown -/
abbrev zO : Type := Option Value ⊕ Nat
def zQ (G : zG) (r : zO) (h' : zH) (ρ : Nat → Nat) (n : Nat) (s : State) (mc ms : Nat) (o : Outcome) (t : State) : Prop :=
  ∃ ρ' : Nat → Nat, (∀ a, a < n → ρ' a = ρ a) ∧ zS G ρ' h' t.heap ∧ va_F (zA G) s t ∧ s.WarmedH t.vm ∧ (∃ L, s.sameButNew ({ t with vm := s.vm } : State) L mc ms ∧ ∀ q ∈ L, zA G q.base) ∧
    match r with
    | .inl v => o = .returned (v.map (ze ρ')) ∧ ∀ w, v = some w → zw (zN h') w
    | .inr x => o = .threw (ρ' x) ∧ x < zN h'
def zEnd (G : zG) (r : zO) (h' : zH) (ρ : Nat → Nat) (n : Nat) (below : List Frame) (s : State) (mc ms : Nat) : State → Prop := fun t =>
  ∃ o, t.status = .running ∧ Ended t below o ∧ zQ G r h' ρ n s mc ms o t
/-- what holds of a frame of y all through -/
def zX (G : zG) (y : zY) (d : Nat) (p : Program) (e : Env) (R : Room) (s : State) (m : MethodId) (args : Array Value) (below : List Frame) (meth : Method) (c : Code) : Prop :=
  p.tables.exec = Jvm.exec ∧ c.code = yC y ∧ c.maxLocals = yL y ∧ meth.sig.returnType = yR y ∧ meth.locks = false ∧ s.vm.findClass (yN y).cls = some m.cls ∧ meth.name = (yN y).name ∧
  (∀ w ∈ lw_all, w.before args s = true) ∧ zInv G s ∧ gS G ≤ s.heap.size ∧ zFr d ≤ R.frames ∧ zLo d ≤ R.locals ∧ (zW y).before args s = true ∧ s.methodNamed? (yN y) = some m ∧ s.vm.method? m = some meth ∧ meth.code = some c
def zV (G : zG) (y : zY) (d pc : Nat) (lv : List (Nat × Value)) (st : List Value) (h : zH) (Q : zO → zH → Prop) : Prop :=
  ∃ (r : zO) (h' : zH), Q r h' ∧ zLe h h' ∧
    ∀ (p : Program) (e : Env) (R : Room) (s : State) (m : MethodId) (args : Array Value) (below : List Frame) (meth : Method) (c : Code) (ρ : Nat → Nat) (H : Heap) (locs : List Loc) (cells slots mc ms : Nat) (ls : Array Slot),
      zX G y d p e R s m args below meth c → zS G ρ h H → va_S (zA G) s.heap H locs → lv_has ls (yL y) (lv.map (zel ρ)) → (∀ v ∈ st, zw (zN h) v) → (∀ q ∈ lv, zw (zN h) q.2) →
      cells + (zC h' - zC h) ≤ mc → slots + (zU h' - zU h) ≤ ms → mc ≤ R.cells → ms ≤ R.slots →
      W p (gL G) e R s m args below meth c H locs cells slots (zEnd G r h' ρ (zN h) below s mc ms) (F0 m pc ls (st.map (ze ρ)))
/-- an exception is on its way, at pc -/
def zT (G : zG) (y : zY) (d pc : Nat) (lv : List (Nat × Value)) (st : List Value) (x : Nat) (h : zH) (Q : zO → zH → Prop) : Prop :=
  ∃ (r : zO) (h' : zH), Q r h' ∧ zLe h h' ∧
    ∀ (p : Program) (e : Env) (R : Room) (s : State) (m : MethodId) (args : Array Value) (below : List Frame) (meth : Method) (c : Code) (ρ : Nat → Nat) (H : Heap) (locs : List Loc) (cells slots mc ms : Nat) (ls : Array Slot),
      zX G y d p e R s m args below meth c → zS G ρ h H → va_S (zA G) s.heap H locs → lv_has ls (yL y) (lv.map (zel ρ)) → (∀ v ∈ st, zw (zN h) v) → (∀ q ∈ lv, zw (zN h) q.2) →
      cells + (zC h' - zC h) ≤ mc → slots + (zU h' - zU h) ≤ ms → mc ≤ R.cells → ms ≤ R.slots → x < zN h →
      vx_W p (gL G) e R s m args below meth c H locs cells slots (zEnd G r h' ρ (zN h) below s mc ms) (F0 m pc ls (st.map (ze ρ))) (ρ x)
/-- a call of y with the arguments as -/
def zM (G : zG) (y : zY) (d : Nat) (as : List Value) (h : zH) (Q : zO → zH → Prop) : Prop :=
  ∃ (r : zO) (h' : zH), Q r h' ∧ zLe h h' ∧ ∀ ρ : Nat → Nat, (∀ v ∈ as, zw (zN h) v) →
    MetFree (gL G) (yN y) (headSpec (zW y :: lw_all) (zRm d (zC h' - zC h) (zU h' - zU h))) (va_Pc (as.map (ze ρ)) (fun U => zInv G U ∧ zS G ρ h U.heap ∧ gS G ≤ U.heap.size)) (fun _ _ _ _ _ => True)
      (fun _ st o t => zQ G r h' ρ (zN h) st (zC h' - zC h) (zU h' - zU h) o t)
