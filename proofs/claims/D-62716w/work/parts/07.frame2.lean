/-! THE MACHINE's TABLES: what every contract carries -/
def tm_nm : List String := ["PAR", "RELAX", "DEF", "GDEF", "EDEF", "LET", "CATCODE", "EXPANDAFTER", "NOEXPAND", "CSNAME", "ENDCSNAME", "STRING", "IF", "IFX", "IFTRUE", "IFFALSE", "ELSE", "FI"]
def tm_or : List (String × String × String × List Int32) := [("java/lang/Enum", "ordinal", "I", [0, 1, 2, 3, 4, 5, 6, 7, 8, 9, 10, 11, 12, 13, 14, 15, 16, 17])]
def tm_tys (K : tm_K) : List (ClassId × FieldType) := [(tm_CA K 20, .byte), (tm_CA K 21, .short), (tm_CA K 22, .int), (tm_CA K 23, .boolean), (tm_CA K 24, .long), (tm_CA K 25, .object "java/lang/Object"), (tm_CA K 26, .object "TokenMouth$Change"), (tm_CA K 27, .object "TokenMouth$Row"), (tm_CA K 28, .array .byte), (tm_CA K 29, .object "TokenMouth$Command")]
def tm_nF : List (String × Nat × String × String × String × String) := [("TokenMouth", 265, "TokenMouth$Row", "size", "I", "TokenMouth"), ("TokenMouth", 364, "TokenMouth$Change", "name", "LTokenMouth$Name;", "TokenMouth"), ("TokenMouth", 368, "TokenMouth$Change", "meaning", "LTokenMouth$Meaning;", "TokenMouth"), ("TokenMouth", 385, "TokenMouth$Change", "character", "I", "TokenMouth"), ("TokenMouth", 388, "TokenMouth$Change", "category", "I", "TokenMouth"), ("TokenMouth", 382, "TokenMouth$Change", "group", "I", "TokenMouth"), ("TokenMouth", 247, "TokenMouth$Name", "letters", "[B", "TokenMouth"), ("TokenMouth", 248, "TokenMouth$Name", "active", "Z", "TokenMouth"), ("TokenMouth", 165, "TokenMouth$Name", "number", "I", "TokenMouth"), ("TokenMouth", 114, "TokenMouth$Name", "meaning", "LTokenMouth$Meaning;", "TokenMouth"), ("TokenMouth", 423, "TokenMouth$Macro", "text", "[S", "TokenMouth"), ("TokenMouth", 425, "TokenMouth$Macro", "body", "[S", "TokenMouth"), ("TokenMouth", 420, "TokenMouth$Macro", "parameters", "I", "TokenMouth"), ("TokenMouth", 188, "TokenMouth$Sign", "token", "I", "TokenMouth"), ("TokenMouth", 74, "TokenMouth$Command", "spelled", "Ljava/lang/String;", "TokenMouth"), ("TokenMouth$Macro", 40, "TokenMouth", "arguments", "[LTokenMouth$Row;", "TokenMouth")]
def tm_nM : List (String × Nat × MethodName × String) := [("TokenMouth", 59, ⟨"TokenMouth$Row", "<init>", "()V"⟩, "TokenMouth"), ("TokenMouth", 71, ⟨"TokenMouth$Change", "<init>", "()V"⟩, "TokenMouth"), ("TokenMouth$Command", 89, ⟨"TokenMouth", "expandAfter", "()V"⟩, "TokenMouth"), ("TokenMouth$Command", 95, ⟨"TokenMouth", "mark", "()V"⟩, "TokenMouth"), ("TokenMouth$Command", 98, ⟨"TokenMouth", "spell", "()V"⟩, "TokenMouth"), ("TokenMouth$Command", 101, ⟨"TokenMouth", "tell", "()V"⟩, "TokenMouth"), ("TokenMouth$Command", 104, ⟨"TokenMouth", "otherwise", "()V"⟩, "TokenMouth"), ("TokenMouth$Command", 107, ⟨"TokenMouth", "close", "()V"⟩, "TokenMouth"), ("TokenMouth$Command", 110, ⟨"TokenMouth", "test", "(LTokenMouth$Command;)V"⟩, "TokenMouth"), ("TokenMouth$Row", 17, ⟨"TokenMouth", "plain", "(I)I"⟩, "TokenMouth"), ("TokenMouth$Row", 23, ⟨"TokenMouth", "levelOf", "(I)I"⟩, "TokenMouth"), ("TokenMouth$Row", 26, ⟨"TokenMouth", "back", "(I)V"⟩, "TokenMouth"), ("TokenMouth$Macro", 28, ⟨"TokenMouth", "need", "()I"⟩, "TokenMouth"), ("TokenMouth$Macro", 32, ⟨"TokenMouth", "same", "(II)Z"⟩, "TokenMouth"), ("TokenMouth$Macro", 36, ⟨"TokenMouth", "fail", "(I)V"⟩, "TokenMouth"), ("TokenMouth$Macro", 44, ⟨"TokenMouth", "undelimited", "(LTokenMouth$Row;)V"⟩, "TokenMouth"), ("TokenMouth$Macro", 48, ⟨"TokenMouth", "delimited", "(LTokenMouth$Row;[SII)V"⟩, "TokenMouth"), ("TokenMouth$Macro", 52, ⟨"TokenMouth", "back", "(I)V"⟩, "TokenMouth")]
def tm_nC : List (String × String) := [("TokenMouth$Command", "TokenMouth$Meaning"), ("TokenMouth$Macro", "TokenMouth$Meaning"), ("TokenMouth$Sign", "TokenMouth$Meaning"), ("TokenMouth$Name", "java/lang/Object"), ("java/lang/IllegalStateException", "java/lang/IllegalStateException"), ("java/lang/IllegalArgumentException", "java/lang/IllegalArgumentException"), ("java/lang/IndexOutOfBoundsException", "java/lang/IndexOutOfBoundsException"), ("java/util/NoSuchElementException", "java/util/NoSuchElementException")]
def tm_nD : List MethodName := [⟨"java/lang/Enum", "ordinal", "()I"⟩, ⟨"java/lang/Throwable", "<init>", "()V"⟩, ⟨"java/lang/Exception", "<init>", "()V"⟩, ⟨"java/lang/RuntimeException", "<init>", "()V"⟩]
def tm_nN : List (String × String) := [("TokenMouth$Command", "TokenMouth$Sign"), ("TokenMouth$Macro", "TokenMouth$Sign"), ("TokenMouth$Sign", "TokenMouth$Command"), ("TokenMouth$Macro", "TokenMouth$Command"), ("TokenMouth$Command", "TokenMouth$Macro"), ("TokenMouth$Sign", "TokenMouth$Macro")]
def tm_nI : List (String × MethodName × MethodName) := [("TokenMouth$Command", ⟨"TokenMouth$Meaning", "isExpandable", "()Z"⟩, ⟨"TokenMouth$Command", "isExpandable", "()Z"⟩), ("TokenMouth$Command", ⟨"TokenMouth$Meaning", "expand", "(LTokenMouth;)V"⟩, ⟨"TokenMouth$Command", "expand", "(LTokenMouth;)V"⟩), ("TokenMouth$Command", ⟨"TokenMouth$Meaning", "isLike", "(LTokenMouth$Meaning;)Z"⟩, ⟨"TokenMouth$Command", "isLike", "(LTokenMouth$Meaning;)Z"⟩), ("TokenMouth$Command", ⟨"TokenMouth$Meaning", "kind", "()I"⟩, ⟨"TokenMouth$Command", "kind", "()I"⟩), ("TokenMouth$Sign", ⟨"TokenMouth$Meaning", "isExpandable", "()Z"⟩, ⟨"TokenMouth$Sign", "isExpandable", "()Z"⟩), ("TokenMouth$Sign", ⟨"TokenMouth$Meaning", "expand", "(LTokenMouth;)V"⟩, ⟨"TokenMouth$Sign", "expand", "(LTokenMouth;)V"⟩), ("TokenMouth$Sign", ⟨"TokenMouth$Meaning", "isLike", "(LTokenMouth$Meaning;)Z"⟩, ⟨"TokenMouth$Sign", "isLike", "(LTokenMouth$Meaning;)Z"⟩), ("TokenMouth$Sign", ⟨"TokenMouth$Meaning", "kind", "()I"⟩, ⟨"TokenMouth$Sign", "kind", "()I"⟩), ("TokenMouth$Macro", ⟨"TokenMouth$Meaning", "isExpandable", "()Z"⟩, ⟨"TokenMouth$Macro", "isExpandable", "()Z"⟩), ("TokenMouth$Macro", ⟨"TokenMouth$Meaning", "expand", "(LTokenMouth;)V"⟩, ⟨"TokenMouth$Macro", "expand", "(LTokenMouth;)V"⟩), ("TokenMouth$Macro", ⟨"TokenMouth$Meaning", "isLike", "(LTokenMouth$Meaning;)Z"⟩, ⟨"TokenMouth$Macro", "isLike", "(LTokenMouth$Meaning;)Z"⟩), ("TokenMouth$Macro", ⟨"TokenMouth$Meaning", "kind", "()I"⟩, ⟨"TokenMouth$Macro", "kind", "()I"⟩)]
def tm_nw (U : State) : Prop := (∀ q ∈ tm_nF, va_Nw (.fieldLinkNest q.1 q.2.1 q.2.2.1 q.2.2.2.1 q.2.2.2.2.1 q.2.2.2.2.2) U) ∧ (∀ q ∈ tm_nM, va_Nw (.methodLinkNest q.1 q.2.1 q.2.2.1 q.2.2.2) U) ∧ (∀ q ∈ tm_nC, va_Nw (.castable q.1 q.2) U) ∧ (∀ q ∈ tm_nN, va_Nc q.1 q.2 U) ∧ (∀ q ∈ tm_nI, va_Fw q.1 q.2.1 q.2.2 U) ∧ (∀ x ∈ tm_nD, va_Nw (.declares x) U) ∧ va_AO "java/lang/Object" U ∧ va_Dc U ∧ ∃ mi : Nat, va_Mi "[Ljava/lang/Object;" mi U
def tm_cs (K : tm_K) (U : State) (H : Heap) : Prop := va_En "TokenMouth$Command" "LTokenMouth$Command;" tm_nm tm_or (fun i => K.2.1 (400 + i)) (tm_A K) U H ∧ vx_Zq Bundle.tN "UNASSIGNED_STACK" Bundle.steD (tm_A K) U H ∧ vx_Zq Bundle.tN "SUPPRESSED_SENTINEL" Bundle.listD (tm_A K) U H ∧ va_Z "java/util/ArrayList" "DEFAULTCAPACITY_EMPTY_ELEMENTDATA" "[Ljava/lang/Object;" (.ref (K.2.1 420)) (tm_A K) U H ∧ va_T (.object "java/lang/Object") (K.2.1 420) 0 (fun _ => .null) (tm_A K) U H
def tm_vm (K : tm_K) (U : State) (H : Heap) : Prop := va_K (tm_D K) tm_cl (tm_tys K) U ∧ tm_nw U ∧ tm_cs K U H
theorem tm_nI_ok : ∀ q ∈ tm_nI, q.2.1.cls ≠ "java/lang/invoke/MethodHandle" ∧ q.2.1.cls ≠ "java/lang/invoke/VarHandle" := by decide +kernel
theorem tm_nw_warm {s U : State} (hW : s.WarmedH U.vm) (h : tm_nw s) : tm_nw U :=
  ⟨fun q hq => (h.1 q hq).warmF hW, fun q hq => (h.2.1 q hq).warmM hW, fun q hq => (h.2.2.1 q hq).warmC hW, fun q hq => (h.2.2.2.1 q hq).moved hW.alike, fun q hq => (h.2.2.2.2.1 q hq).moved (tm_nI_ok q hq) hW.alike, fun x hx => (h.2.2.2.2.2.1 x hx).warmD hW, h.2.2.2.2.2.2.1.moved hW.alike, h.2.2.2.2.2.2.2.1.moved hW.alike, h.2.2.2.2.2.2.2.2.elim fun mi hm => ⟨mi, hm.moved hW.alike⟩⟩
theorem tm_cs_kept {K : tm_K} {U : State} {H H1 : Heap} (h : tm_cs K U H) (hq : ∀ a : Nat, a < H.size → ¬ tm_A K a → H1[a]? = H[a]?) : tm_cs K U H1 :=
  ⟨h.1.kept hq, h.2.1.kept hq, h.2.2.1.kept hq, h.2.2.2.1.kept hq, h.2.2.2.2.kept hq⟩
theorem tm_cs_moved {K : tm_K} {u U : State} {H : Heap} (hvm : u.vm.Alike U.vm) (h : tm_cs K u H) : tm_cs K U H :=
  ⟨va_En.moved hvm h.1, vx_Zq.moved hvm h.2.1, vx_Zq.moved hvm h.2.2.1, va_Z.moved hvm h.2.2.2.1, va_T.moved hvm h.2.2.2.2⟩
theorem tm_vm_go {K : tm_K} {s U : State} {H : Heap} {locs : List Loc} (h : tm_vm K s s.heap) (hS : va_S (tm_A K) s.heap H locs) (hU : U.heap = H) (hW : s.WarmedH U.vm) : tm_vm K U U.heap := by
  subst hU
  exact ⟨va_K.moved hW.alike h.1, tm_nw_warm hW h.2.1, tm_cs_moved hW.alike (tm_cs_kept h.2.2 hS.2.1)⟩
/-! CONTRACTS AND THE JUDGEMENT -/
def tm_ov (K : tm_K) (rt : Nat) (v : Int) : Option Value := match rt with
  | 0 => none
  | 1 => some (tm_iv v)
  | _ => some (tm_rv K v)
def tm_exn (e : Nat) : String := match e with
  | 0 => "java/lang/IllegalStateException"
  | 1 => "java/lang/IllegalArgumentException"
  | 2 => "java/lang/IndexOutOfBoundsException"
  | _ => "java/util/NoSuchElementException"
def tm_cq (K : tm_K) (FX : tm_X0) (rt : Nat) (o : Int ⊕ Nat) (σ' : tm_S) : Array Value → State → Outcome → State → Prop := fun _ st oc t => (∃ v, o = .inl v ∧ tm_in v ∧ oc = .returned (tm_ov K rt v)) ∧ tm_Wd K FX σ' t.heap ∧ va_F (tm_A K) st t
def tm_cx (K : tm_K) (FX : tm_X0) (o : Int ⊕ Nat) (σ' : tm_S) : String → State → State → Prop := fun E st t => (∃ e, o = .inr e ∧ E = tm_exn e) ∧ (tm_W K σ' t.heap ∧ tm_hf FX σ' ∧ ∀ q : Nat, t.heap.size ≤ q → tm_A K q) ∧ va_F (tm_A K) st t
def tm_ct (K : tm_K) (FX : tm_X0) (l : Launch) (y : MethodName) (bytes : ByteArray) (maxL : Nat) (ret : Option FieldType) (rt : Nat) (As : List Value) (F : tm_S → tm_R) (fr lo : Nat) : Prop :=
  ∀ (σ : tm_S) (o : Int ⊕ Nat) (σ' : tm_S), F σ = some (o, σ') → vx_Met l y (ws_ y bytes maxL ret) { frames := fr, cells := tm_LC K - tm_c σ, slots := tm_LS K - tm_z σ, locals := lo } (va_Pc As (fun U => tm_vm K U U.heap ∧ tm_Wd K FX σ U.heap)) (tm_cq K FX rt o σ') (tm_cx K FX o σ') (tm_LC K - tm_c σ) (tm_LS K - tm_z σ) (tm_A K)
section TMJ
variable {p : Program} {l : Launch} {e : Env} {R : Room} {s : State} {m : MethodId} {args : Array Value} {below : List Frame} {meth : Method} {c : Code} {K : tm_K} {FX : tm_X0} {rt : Nat} {cc : ByteArray} {nL : Nat} {own mn : String} {ret : Option FieldType} {fr lo : Nat} {pc : Nat} {ls : Array Slot} {rest : List Value} {X A B : tm_R} {σ : tm_S}
def tm_C (p : Program) (l : Launch) (R : Room) (s : State) (m : MethodId) (args : Array Value) (meth : Method) (c : Code) (K : tm_K) (cc : ByteArray) (nL : Nat) (own mn : String) (ret : Option FieldType) (fr lo : Nat) : Prop :=
  p.tables.exec = Jvm.exec ∧ c.code = cc ∧ c.maxLocals = nL ∧ s.vm.findClass own = some m.cls ∧ (∀ w ∈ lw_all, w.before args s = true) ∧ meth.locks = false ∧ (∀ x ∈ c.exceptionTable.toList, False) ∧ meth.sig.returnType = ret ∧ tm_vm K s s.heap ∧ (R.frames = fr ∧ R.locals = lo ∧ R.cells = tm_LC K - s.heap.size ∧ R.slots = tm_LS K - tm_hs s.heap) ∧ l.stackTraces = false ∧ meth.name = mn
def tm_J (p : Program) (l : Launch) (e : Env) (R : Room) (s : State) (m : MethodId) (args : Array Value) (below : List Frame) (meth : Method) (c : Code) (K : tm_K) (FX : tm_X0) (rt : Nat) (X : tm_R) (σ : tm_S) (g : JFrame) : Prop :=
  ∀ (o : Int ⊕ Nat) (σ' : tm_S), X = some (o, σ') → ∀ (H : Heap) (locs : List Loc), tm_Wd K FX σ H → va_S (tm_A K) s.heap H locs →
    W p l e R s m args below meth c H locs (H.size - s.heap.size) (tm_hs H - tm_hs s.heap) (vx_MQ below (tm_cq K FX rt o σ') (tm_cx K FX o σ') args s (tm_LC K - s.heap.size) (tm_LS K - tm_hs s.heap) (tm_A K)) g
/-- a method's contract, out of the walk of its body -/
theorem tm_ct_of {y : MethodName} {As : List Value} {F : tm_S → tm_R} (hl : l.stackTraces = false) (hy : plainName y.cls = true) (hn : (lg_sl As).length ≤ nL)
    (body : ∀ (p : Program) (e : Env) (R : Room) (s : State) (m : MethodId) (args : Array Value) (below : List Frame) (meth : Method) (c : Code), tm_C p l R s m args meth c K cc nL y.cls y.name ret fr lo → ∀ (σ : tm_S) (ls : Array Slot), lv_has ls nL (lv_args 0 As) → tm_J p l e R s m args below meth c K FX rt (F σ) σ (F0 m 0 ls [])) :
    tm_ct K FX l y cc nL ret rt As F fr lo := by
  intro σ o σ' h
  refine vx_ofW hy rfl ?_
  intro p e s m args below meth c s₁ B hml hno hv
  obtain ⟨rfl, hvm, hwd⟩ := hv
  have hts := atoms_spec (ws := ws_ y cc nL ret) B.pre
  have hts : ∀ w ∈ lw_all, w.before _ s = true := fun w h => hts w (List.mem_cons_of_mem _ h)
  have hsz := hwd.2.2.1
  have hhz := hwd.2.2.2.1
  have hl9 := lv_entry As (n := nL) hn
  rw [lg_entry_eq]
  have := body p e { frames := fr, cells := tm_LC K - tm_c σ, slots := tm_LS K - tm_z σ, locals := lo } s m As.toArray below meth c ⟨B.exec, B.bytes, hml, findClass_of_methodNamed B.named, hts, B.notSynchronized, hno, B.returns, hvm, ⟨rfl, rfl, by rw [hsz], by rw [hhz]⟩, hl, (name_of_methodNamed B.named B.method).1⟩ σ _ hl9 o σ' h s.heap [] hwd va_S.rf
  rw [Nat.sub_self, Nat.sub_self, hsz, hhz] at this
  exact this
theorem tm_lt_ {x : Int} {k : Int → tm_R} (hx : tm_in x) (kk : ∀ v : Int, tm_in v → tm_J p l e R s m args below meth c K FX rt (k v) σ (F0 m pc ls (tm_iv v :: rest))) : tm_J p l e R s m args below meth c K FX rt (tm_lt x k) σ (F0 m pc ls (tm_iv x :: rest)) := kk x hx
theorem tm_ltr_ {x : Int} {k : Int → tm_R} (hx : tm_in x) (kk : ∀ v : Int, tm_in v → tm_J p l e R s m args below meth c K FX rt (k v) σ (F0 m pc ls (tm_rv K v :: rest))) : tm_J p l e R s m args below meth c K FX rt (tm_lt x k) σ (F0 m pc ls (tm_rv K x :: rest)) := kk x hx
theorem tm_ls_ {k : tm_S → tm_R} {g : JFrame} (kk : ∀ τ : tm_S, tm_J p l e R s m args below meth c K FX rt (k τ) τ g) : tm_J p l e R s m args below meth c K FX rt (tm_ls σ k) σ g := kk σ
theorem tm_none {g : JFrame} : tm_J p l e R s m args below meth c K FX rt none σ g := fun o σ' h => by cases h
theorem tm_gi_ {x : Int} {g : JFrame} (kk : tm_in x → tm_J p l e R s m args below meth c K FX rt X σ g) : tm_J p l e R s m args below meth c K FX rt (tm_gi x X) σ g := by
  intro o σ' h
  unfold tm_gi at h
  split at h
  · rename_i h9
    exact kk h9 o σ' h
  · cases h
theorem tm_gx_ {i n : Int} {g : JFrame} (kk : 0 ≤ i ∧ i < n → tm_J p l e R s m args below meth c K FX rt X σ g) : tm_J p l e R s m args below meth c K FX rt (tm_gx i n X) σ g := by
  intro o σ' h
  unfold tm_gx at h
  split at h
  · rename_i h9
    exact kk h9 o σ' h
  · cases h
theorem tm_gb_ {x : Int} {g : JFrame} (kk : -128 ≤ x ∧ x ≤ 127 → tm_J p l e R s m args below meth c K FX rt X σ g) : tm_J p l e R s m args below meth c K FX rt (tm_gb x X) σ g := by
  intro o σ' h
  unfold tm_gb at h
  split at h
  · rename_i h9
    exact kk h9 o σ' h
  · cases h
theorem tm_gs_ {x : Int} {g : JFrame} (kk : -32768 ≤ x ∧ x ≤ 32767 → tm_J p l e R s m args below meth c K FX rt X σ g) : tm_J p l e R s m args below meth c K FX rt (tm_gs x X) σ g := by
  intro o σ' h
  unfold tm_gs at h
  split at h
  · rename_i h9
    exact kk h9 o σ' h
  · cases h
theorem tm_gz_ {x : Int} {g : JFrame} (kk : x = 0 ∨ x = 1 → tm_J p l e R s m args below meth c K FX rt X σ g) : tm_J p l e R s m args below meth c K FX rt (tm_gz x X) σ g := by
  intro o σ' h
  unfold tm_gz at h
  split at h
  · rename_i h9
    exact kk h9 o σ' h
  · cases h
theorem tm_gk_ {a b : Nat} {g : JFrame} (kk : a = b → tm_J p l e R s m args below meth c K FX rt X σ g) : tm_J p l e R s m args below meth c K FX rt (tm_gk a b X) σ g := by
  intro o σ' h
  unfold tm_gk at h
  split at h
  · rename_i h9
    exact kk h9 o σ' h
  · cases h
end TMJ
