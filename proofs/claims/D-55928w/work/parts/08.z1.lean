/-! THE Z LAYER. A method's walk over an abstract heap zH := address -> what is known of the cell; S: what is known of that heap. -/
set_option maxRecDepth 100000
abbrev zX : Type := Program × Launch × Env × Room × State × MethodId × Array Value × List Frame × Method × Code
abbrev zWd : Type := va_G × (Nat → ClassId) × Heap
abbrev zC : Type := (Nat × vp_A) ⊕ (Nat × List Value)
abbrev zH : Type := Nat → Option zC
abbrev zp (X : zX) := X.1
abbrev zl (X : zX) := X.2.1
abbrev ze (X : zX) := X.2.2.1
abbrev zR (X : zX) := X.2.2.2.1
abbrev zs (X : zX) := X.2.2.2.2.1
abbrev zm (X : zX) := X.2.2.2.2.2.1
abbrev za (X : zX) := X.2.2.2.2.2.2.1
abbrev zb (X : zX) := X.2.2.2.2.2.2.2.1
abbrev zme (X : zX) := X.2.2.2.2.2.2.2.2.1
abbrev zc (X : zX) := X.2.2.2.2.2.2.2.2.2
def zcl : List vw_C := [(RX0, TX0, 7), (RX1, TX1, 7), (RX2, TX2, 2), (RX3, TX3, 4), (RX4, TX4, 25), (RX5, TX5, 2), (RX6, TX6, 8), (RX7, TX7, 8), (RX8, TX8, 8), (RX9, TX9, 8), (RX10, TX10, 2), (RX11, TX11, 7), (RX12, TX12, 4), (RJ2, TJ2, 3), (RJ6, TJ6, 3), (RJ8, TJ8, 4), (RJ9, TJ9, 4), (RJ11, TJ11, 4), (RJ18, TJ18, 4), (RJ19, TJ19, 3)]
/-- int, byte, boolean, Object arrays: the kinds 0, 1, 2, 3 -/
def ztys (w : zWd) : List (ClassId × FieldType) := [(w.2.1 0, .int), (w.2.1 1, .byte), (w.2.1 2, .boolean), (w.2.1 3, .object "java/lang/Object")]
def zre (w : zWd) (e : zC) : va_E := match e with
  | .inl x => .inl (w.2.1 x.1, x.2)
  | .inr x => .inr x
abbrev zA (w : zWd) : Nat → Prop := fun q => w.2.2.size ≤ q
def zo (ci : Nat) (fs : List Value) : zC := .inr (ci, fs)
def zi (n : Nat) (f : Nat → Int32) : zC := .inl (0, n, .inl f)
def zby (n : Nat) (f : Nat → Int32) : zC := .inl (1, n, .inl f)
def zbo (n : Nat) (f : Nat → Int32) : zC := .inl (2, n, .inl f)
def zq (n : Nat) (f : Nat → Option Nat) : zC := .inl (3, n, .inr (.inr (.inr (.inr f))))
def zset (h : zH) (a : Nat) (e : zC) : zH := fun q => if q = a then some e else h q
theorem zset_eq {h : zH} {a : Nat} {e : zC} : zset h a e a = some e := by simp [zset]
theorem zset_ne {h : zH} {a b : Nat} {e : zC} (n : b ≠ a) : zset h a e b = h b := by simp [zset, n]
/-- the heap H is the start's below its size, and holds the cells of h -/
def zhp (w : zWd) (h : zH) (H : Heap) : Prop := w.2.2.size ≤ H.size ∧ (∀ q : Nat, q < w.2.2.size → H[q]? = w.2.2[q]?) ∧ ∀ (a : Nat) (e : zC), h a = some e → w.2.2.size ≤ a ∧ va_at w.1 zcl (a, zre w e) H
def zls (w : zWd) (h : zH) (H : Heap) : va_W := (List.range H.size).filterMap fun a => (h a).map fun e => (a, zre w e)
theorem zls_of {w : zWd} {h : zH} {H : Heap} {q : Nat × va_E} (hq : q ∈ zls w h H) : ∃ e, h q.1 = some e ∧ q.2 = zre w e := by
  obtain ⟨a, -, h2⟩ := List.mem_filterMap.mp hq
  obtain ⟨e, he, rfl⟩ := Option.map_eq_some_iff.mp h2
  exact ⟨e, he, rfl⟩
theorem zls_mem {w : zWd} {h : zH} {H : Heap} {a : Nat} {e : zC} (hp : zhp w h H) (he : h a = some e) : ∃ k : Nat, (zls w h H)[k]? = some (a, zre w e) := by
  have hlt : a < H.size := (hp.2.2 a e he).2.lt
  exact List.getElem?_of_mem (List.mem_filterMap.mpr ⟨a, List.mem_range.mpr hlt, by rw [he]; rfl⟩)
theorem zls_P {w : zWd} {h : zH} {H : Heap} (hp : zhp w h H) : va_P w.1 zcl (zls w h H) H := by
  intro k q hk
  obtain ⟨e, h1, h2⟩ := zls_of (List.mem_of_getElem? hk)
  obtain ⟨a, b⟩ := q
  subst h2
  exact (hp.2.2 _ _ h1).2
theorem zls_nd (w : zWd) (h : zH) (l : List Nat) (hn : l.Nodup) : ∀ (i j : Nat) (p q : Nat × va_E), (l.filterMap fun a => (h a).map fun e => (a, zre w e))[i]? = some p → (l.filterMap fun a => (h a).map fun e => (a, zre w e))[j]? = some q → p.1 = q.1 → i = j := by
  have hm : ((l.filterMap fun a => (h a).map fun e => (a, zre w e)).map (·.1)).Nodup := by
    induction l with
    | nil => simp
    | cons a l ih =>
      have ⟨h1, h2⟩ := List.nodup_cons.mp hn
      cases he : h a with
      | none => simpa [List.filterMap_cons, he] using ih h2
      | some e =>
        simp only [List.filterMap_cons, he, Option.map_some, List.map_cons, List.nodup_cons]
        refine ⟨fun hx => ?_, ih h2⟩
        obtain ⟨q, hq, hqa⟩ := List.mem_map.mp hx
        obtain ⟨b, hb, hb2⟩ := List.mem_filterMap.mp hq
        obtain ⟨e', -, rfl⟩ := Option.map_eq_some_iff.mp hb2
        exact h1 (hqa ▸ hb)
  intro i j p q hi hj hpq
  have hi' : ((l.filterMap fun a => (h a).map fun e => (a, zre w e)).map (·.1))[i]? = some p.1 := by rw [List.getElem?_map, hi]; rfl
  have hj' : ((l.filterMap fun a => (h a).map fun e => (a, zre w e)).map (·.1))[j]? = some p.1 := by rw [List.getElem?_map, hj, hpq]; rfl
  have hl := (List.getElem?_eq_some_iff.mp hi').1
  exact (List.getElem?_inj hl hm).mp (hi'.trans hj'.symm)
theorem zls_D {w : zWd} {h : zH} {H : Heap} (hp : zhp w h H) : va_D (zA w) (zls w h H) := by
  refine ⟨zls_nd w h _ List.nodup_range, fun k q hk => ?_⟩
  obtain ⟨e, h1, -⟩ := zls_of (List.mem_of_getElem? hk)
  exact (hp.2.2 _ _ h1).1
theorem zhp_S {w : zWd} {h : zH} {H : Heap} {locs : List Loc} (hp : zhp w h H) (hl : ∀ q ∈ locs, w.2.2.size ≤ q.base) : va_S (zA w) w.2.2 H locs :=
  ⟨hp.1, fun q h1 _ => hp.2.1 q h1, hl⟩
theorem zhp_A (w : zWd) : ∀ q : Nat, w.2.2.size ≤ q → zA w q := fun _ h => h
/-- a cell is written -/
theorem zhp_put {w : zWd} {h : zH} {H H1 : Heap} {locs1 : List Loc} {a q0 : Nat} {e e' : zC} {x : va_E} (hp : zhp w h H) (he : h a = some e) (hq : (zls w h H)[q0]? = some (a, zre w e)) (hx : x = zre w e') (hP : va_P w.1 zcl ((zls w h H).set q0 (a, x)) H1) (hS : va_S (zA w) w.2.2 H1 locs1) : zhp w (zset h a e') H1 := by
  subst hx
  refine ⟨hS.1, fun q hq => hS.2.1 q hq (fun z => absurd hq (Nat.not_lt.mpr z)), fun b eb hb => ?_⟩
  have hl := (List.getElem?_eq_some_iff.mp hq).1
  by_cases hba : b = a
  · subst hba
    rw [zset_eq] at hb
    cases hb
    exact ⟨(hp.2.2 _ _ he).1, hP q0 _ (List.getElem?_set_self hl)⟩
  · rw [zset_ne hba] at hb
    obtain ⟨j, hj⟩ := zls_mem hp hb
    have hjq : q0 ≠ j := by
      intro e1
      subst e1
      exact hba (congrArg Prod.fst (Option.some.inj (hq.symm.trans hj))).symm
    exact ⟨(hp.2.2 _ _ hb).1, hP j _ (by rw [List.getElem?_set_ne hjq]; exact hj)⟩
/-- a cell is made -/
theorem zhp_new {w : zWd} {h : zH} {H H1 : Heap} {locs1 : List Loc} {a : Nat} {e : zC} {x : va_E} (hp : zhp w h H) (hx : x = zre w e) (hP : va_P w.1 zcl (zls w h H ++ [(a, x)]) H1) (hD : va_D (zA w) (zls w h H ++ [(a, x)])) (hS : va_S (zA w) w.2.2 H1 locs1) : zhp w (zset h a e) H1 ∧ h a = none := by
  subst hx
  have hlast : (zls w h H ++ [(a, zre w e)])[(zls w h H).length]? = some (a, zre w e) := by simp
  have hA := hD.2 _ _ hlast
  have hnone : h a = none := by
    cases hh : h a with
    | none => rfl
    | some e0 =>
      obtain ⟨j, hj⟩ := zls_mem hp hh
      have hl := (List.getElem?_eq_some_iff.mp hj).1
      have h1 := hD.1 j _ (a, zre w e0) (a, zre w e) (by rw [List.getElem?_append_left hl]; exact hj) hlast rfl
      omega
  refine ⟨⟨hS.1, fun q hq => hS.2.1 q hq (fun z => absurd hq (Nat.not_lt.mpr z)), fun b eb hb => ?_⟩, hnone⟩
  by_cases hba : b = a
  · subst hba
    rw [zset_eq] at hb
    cases hb
    exact ⟨hA, hP _ _ hlast⟩
  · rw [zset_ne hba] at hb
    obtain ⟨j, hj⟩ := zls_mem hp hb
    have hl := (List.getElem?_eq_some_iff.mp hj).1
    exact ⟨(hp.2.2 _ _ hb).1, hP j _ (by rw [List.getElem?_append_left hl]; exact hj)⟩
theorem zhp_lt {w : zWd} {h : zH} {H : Heap} {a : Nat} {e : zC} (hp : zhp w h H) (he : h a = some e) : a < H.size := (hp.2.2 a e he).2.lt
/-- less is known -/
theorem zhp_sub {w : zWd} {h g : zH} {H : Heap} (hp : zhp w h H) (hg : ∀ a e, g a = some e → h a = some e) : zhp w g H := ⟨hp.1, hp.2.1, fun a e he => hp.2.2 a e (hg a e he)⟩
/-- words that don't ride in the lists: carried beside them -/
def zNw (w : Cond) : Bool := match w with
  | .castable _ _ => true
  | .fieldLinkNest _ _ _ _ _ _ => true
  | .methodLinkNest _ _ _ _ => true
  | .declares _ => true
  | _ => false
def zNs (U : State) : Prop := ∀ x ∈ lw_tbl, zNw x = true → va_Nw x U
theorem zNs.of {args : Array Value} {U : State} (h : ∀ x ∈ lw_tbl, x.before args U = true) : zNs U := by
  intro x hx hn
  have h1 := h x hx
  cases x <;> first | (simp [zNw] at hn; done) | exact va_Nw.of rfl h1
theorem zNs.warm {s U : State} (hW : s.WarmedH U.vm) (h : zNs s) : zNs U := by
  intro x hx hn
  have h1 := h x hx hn
  cases x <;> first | (simp [zNw] at hn; done) | exact va_Nw.warmC hW h1 | exact va_Nw.warmF hW h1 | exact va_Nw.warmM hW h1 | exact va_Nw.warmD hW h1
theorem zNs.same {s U : State} (hv : s.vm = U.vm) (h : zNs s) : zNs U := by
  intro x hx hn
  have h1 := h x hx hn
  cases x <;> first | (simp [zNw] at hn; done) | exact va_Nw.same rfl hv h1
/-- interface calls -/
def zFs : List (String × MethodName × MethodName) := [("CandleStatute$House", ⟨"CandleStatute$Copied", "copy", "()Ljava/lang/Object;"⟩, ⟨"CandleStatute$House", "copy", "()Ljava/lang/Object;"⟩), ("CandleStatute$Stub", ⟨"CandleStatute$Copied", "copy", "()Ljava/lang/Object;"⟩, ⟨"CandleStatute$Stub", "copy", "()Ljava/lang/Object;"⟩), ("CandleStatute$Stub", ⟨"CandleStatute$Ordered", "aheadOf", "(Ljava/lang/Object;)I"⟩, ⟨"CandleStatute$Stub", "aheadOf", "(Ljava/lang/Object;)I"⟩), ("CandleStatute$Claim", ⟨"CandleStatute$Ordered", "aheadOf", "(Ljava/lang/Object;)I"⟩, ⟨"CandleStatute$Claim", "aheadOf", "(Ljava/lang/Object;)I"⟩), ("java/util/ArrayList$Itr", ⟨"java/util/Iterator", "hasNext", "()Z"⟩, ⟨"java/util/ArrayList$Itr", "hasNext", "()Z"⟩), ("java/util/ArrayList$Itr", ⟨"java/util/Iterator", "next", "()Ljava/lang/Object;"⟩, ⟨"java/util/ArrayList$Itr", "next", "()Ljava/lang/Object;"⟩)]
theorem zFs_ok : ∀ q ∈ zFs, q.2.1.cls ≠ "java/lang/invoke/MethodHandle" ∧ q.2.1.cls ≠ "java/lang/invoke/VarHandle" := by decide +kernel
/-- what is caught by no such handler -/
def zNcs : List (String × String) := [("CandleStatute$TooShort", "CandleStatute$Forbidden"), ("CandleStatute$Refused", "CandleStatute$Wrong"), ("CandleStatute$Forbidden", "CandleStatute$Wrong"), ("CandleStatute$TooShort", "CandleStatute$Wrong")]
/-- statics and constants of the start that the code reads -/
def zSt (w : zWd) (U : State) : Prop := va_AO "java/lang/Object" U ∧ (∀ q ∈ zFs, va_Fw q.1 q.2.1 q.2.2 U) ∧ va_Z "java/lang/String" "COMPACT_STRINGS" "Z" (.int 1) (zA w) U w.2.2 ∧
  (∀ q ∈ zNcs, va_Nc q.1 q.2 U) ∧ va_Zq "java/lang/Throwable" "UNASSIGNED_STACK" "[Ljava/lang/StackTraceElement;" (zA w) U w.2.2 ∧ va_Zq "java/lang/Throwable" "SUPPRESSED_SENTINEL" "Ljava/util/List;" (zA w) U w.2.2
def zK (w : zWd) (U : State) : Prop := va_K w.1 zcl (ztys w) U ∧ zNs U ∧ zSt w U
theorem zSt.moved {w : zWd} {s U : State} (hvm : s.vm.Alike U.vm) (h : zSt w s) : zSt w U :=
  ⟨h.1.moved hvm, fun q hq => (h.2.1 q hq).moved (zFs_ok q hq) hvm, h.2.2.1.moved hvm, fun q hq => (h.2.2.2.1 q hq).moved hvm, h.2.2.2.2.1.moved hvm, h.2.2.2.2.2.moved hvm⟩
theorem zK.warm {w : zWd} {s U : State} (hW : s.WarmedH U.vm) (h : zK w s) : zK w U := ⟨va_K.moved hW.alike h.1, h.2.1.warm hW, h.2.2.moved hW.alike⟩
theorem zK.same {w : zWd} {s U : State} (hv : s.vm = U.vm) (h : zK w s) : zK w U :=
  ⟨va_K.moved (hv ▸ Vm.Alike.refl s.vm) h.1, h.2.1.same hv, h.2.2.moved (hv ▸ Vm.Alike.refl s.vm)⟩
abbrev zTb : Type := List (Nat × Nat × Nat × Nat)
def zOK (X : zX) (w : zWd) (own : String) (cc : ByteArray) (nL : Nat) (fr lo : Nat) (tb : zTb) (ret : Option FieldType) (nm : String) : Prop :=
  (zp X).tables.exec = Jvm.exec ∧ (zc X).code = cc ∧ (zc X).maxLocals = nL ∧ (zs X).vm.findClass own = some (zm X).cls ∧ (∀ wd ∈ lw_all, wd.before (za X) (zs X) = true) ∧ zK w (zs X) ∧ (zme X).locks = false ∧ (zc X).exceptionTable.toList = tableOf tb ∧ (zR X).frames = fr ∧ (zR X).locals = lo ∧ (zme X).sig.returnType = ret ∧ (zme X).name = nm
abbrev zWX (X : zX) (H : Heap) (locs : List Loc) (cells slots : Nat) (Q : State → Prop) (g : JFrame) : Prop := W (zp X) (zl X) (ze X) (zR X) (zs X) (zm X) (za X) (zb X) (zme X) (zc X) H locs cells slots Q g
abbrev zVX (X : zX) (H : Heap) (locs : List Loc) (cells slots : Nat) (Q : State → Prop) (g : JFrame) (q : Addr) : Prop := vx_W (zp X) (zl X) (ze X) (zR X) (zs X) (zm X) (za X) (zb X) (zme X) (zc X) H locs cells slots Q g q
/-- at pc, with locals lv and stack st, any heap that S says, k cells of n slots still to be had -/
def Z (X : zX) (w : zWd) (nL : Nat) (Q : State → Prop) (S : zH → Prop) (k n : Nat) (lv : List (Nat × Value)) (pc : Nat) (st : List Value) : Prop :=
  ∀ (h : zH) (H : Heap) (locs : List Loc) (ls : Array Slot) (cells slots : Nat), S h → zhp w h H → (∀ q ∈ locs, w.2.2.size ≤ q.base) → lv_has ls nL lv → cells + k ≤ (zR X).cells → slots + n ≤ (zR X).slots →
    zWX X H locs cells slots Q (F0 (zm X) pc ls st)
/-- the same with q thrown -/
def ZX (X : zX) (w : zWd) (nL : Nat) (Q : State → Prop) (S : zH → Prop) (k n : Nat) (lv : List (Nat × Value)) (pc : Nat) (q : Nat) : Prop :=
  ∀ (h : zH) (H : Heap) (locs : List Loc) (ls : Array Slot) (cells slots : Nat) (st : List Value), S h → zhp w h H → (∀ q ∈ locs, w.2.2.size ≤ q.base) → lv_has ls nL lv → cells + k ≤ (zR X).cells → slots + n ≤ (zR X).slots →
    zVX X H locs cells slots Q (F0 (zm X) pc ls st) q
def zQc (w : zWd) (P : Option Value → zH → Prop) : Array Value → State → Outcome → State → Prop := fun _ _ o t => ∃ v h', o = .returned v ∧ P v h' ∧ zhp w h' t.heap
def zXC (w : zWd) (P : Nat → zH → Prop) : String → Addr → State → State → Prop := fun _ q _ t => ∃ h', P q h' ∧ (∃ e, h' q = some e) ∧ zhp w h' t.heap
def zQ (X : zX) (w : zWd) (P : Option Value → zH → Prop) (PX : Nat → zH → Prop) : State → Prop := vx_MQ (zb X) (zQc w P) (zXC w PX) (za X) (zs X) (zR X).cells (zR X).slots (zA w)
def zPc (w : zWd) (args : List Value) (S : zH → Prop) : Array Value → State → Prop := va_Pc args (fun U => (∃ h, S h ∧ zhp w h U.heap) ∧ zK w U)
/-- a method's contract: from S, by args, to P (or thrown, to PX); fr frames, lo words, mc cells of ms slots -/
def ZM (l : Launch) (w : zWd) (y : MethodName) (ws : List Cond) (fr lo mc ms : Nat) (args : List Value) (S : zH → Prop) (P : Option Value → zH → Prop) (PX : Nat → zH → Prop) : Prop :=
  vx_Met l y ws ({ frames := fr, cells := mc, slots := ms, locals := lo } : Room) (zPc w args S) (zQc w P) (zXC w PX) mc ms (zA w)
abbrev zno : Nat → zH → Prop := fun _ _ => False
theorem zPc_blind {w : zWd} {args : List Value} {S : zH → Prop} : FrameBlind (zPc w args S) := by
  intro a U g mk h
  obtain ⟨h1, ⟨h2, h3, h4⟩, h5⟩ := h
  exact ⟨h1, ⟨h2, h3, h4⟩, zK.same (s := U) (U := U.calling g mk a) rfl h5⟩
theorem zPc_pre {w : zWd} {As : List Value} {S : zH → Prop} {s : State} {h : zH} {H : Heap} (hK : zK w s) (hS : S h) (hp : zhp w h H) : ∀ U : State, U.heap = H → s.WarmedH U.vm → zPc w As S As.toArray U := by
  intro U hU hW
  refine ⟨rfl, ⟨h, hS, by rw [hU]; exact hp⟩, hK.warm hW⟩
section ZR
variable {X : zX} {w : zWd} {own nm : String} {cc : ByteArray} {nL fr lo : Nat} {tb : zTb} {ret : Option FieldType} {Q : State → Prop} {S : zH → Prop} {k n : Nat} {lv : List (Nat × Value)} {pc : Nat} {st : List Value}
theorem z_eq {pc' : Nat} {st' : List Value} (h1 : pc = pc') (h2 : st = st') (kk : Z X w nL Q S k n lv pc' st') : Z X w nL Q S k n lv pc st := by subst h1; subst h2; exact kk
theorem z_weak {k' n' : Nat} (h1 : k' ≤ k) (h2 : n' ≤ n) (kk : Z X w nL Q S k' n' lv pc st) : Z X w nL Q S k n lv pc st :=
  fun h H locs ls c s a1 a2 a3 a4 a5 a6 => kk h H locs ls c s a1 a2 a3 a4 (by omega) (by omega)
theorem z_sub {lv' : List (Nat × Value)} (ks : List Nat) (hl : lv_pick lv ks = lv') (kk : Z X w nL Q S k n lv' pc st) : Z X w nL Q S k n lv pc st :=
  fun h H locs ls c s a1 a2 a3 a4 a5 a6 => kk h H locs ls c s a1 a2 a3 (lv_sub a4 ks hl) a5 a6
theorem zx_sub {q : Nat} {lv' : List (Nat × Value)} (ks : List Nat) (hl : lv_pick lv ks = lv') (kk : ZX X w nL Q S k n lv' pc q) : ZX X w nL Q S k n lv pc q :=
  fun h H locs ls c s st a1 a2 a3 a4 a5 a6 => kk h H locs ls c s st a1 a2 a3 (lv_sub a4 ks hl) a5 a6
/-- what is known of the heap, said otherwise -/
theorem z_to {S' : zH → Prop} (hS : ∀ h, S h → S' h) (kk : Z X w nL Q S' k n lv pc st) : Z X w nL Q S k n lv pc st :=
  fun h H locs ls c s a1 a2 a3 a4 a5 a6 => kk h H locs ls c s (hS h a1) a2 a3 a4 a5 a6
theorem zx_to {q : Nat} {S' : zH → Prop} (hS : ∀ h, S h → S' h) (kk : ZX X w nL Q S' k n lv pc q) : ZX X w nL Q S k n lv pc q :=
  fun h H locs ls c s st a1 a2 a3 a4 a5 a6 => kk h H locs ls c s st (hS h a1) a2 a3 a4 a5 a6
/-- the heap by a name -/
theorem z_pick (kk : ∀ h, S h → Z X w nL Q (fun g => g = h) k n lv pc st) : Z X w nL Q S k n lv pc st :=
  fun h H locs ls c s a1 a2 a3 a4 a5 a6 => kk h a1 h H locs ls c s rfl a2 a3 a4 a5 a6
theorem zx_pick {q : Nat} (kk : ∀ h, S h → ZX X w nL Q (fun g => g = h) k n lv pc q) : ZX X w nL Q S k n lv pc q :=
  fun h H locs ls c s st a1 a2 a3 a4 a5 a6 => kk h a1 h H locs ls c s st rfl a2 a3 a4 a5 a6
/-- some of it forgotten -/
theorem z_drop {S' : zH → Prop} (hS : ∀ h, S h → ∃ g, S' g ∧ ∀ a e, g a = some e → h a = some e) (kk : Z X w nL Q S' k n lv pc st) : Z X w nL Q S k n lv pc st := by
  intro h H locs ls c s a1 a2 a3 a4 a5 a6
  obtain ⟨g, h1, h2⟩ := hS h a1
  exact kk g H locs ls c s h1 (zhp_sub a2 h2) a3 a4 a5 a6
theorem zat {h : zH} {a : Nat} {e : zC} (hf : h a = some e) : ∀ g, g = h → g a = some e := fun _ q => q ▸ hf

-- shapes of these are the kit's own
theorem z_iconst (E : zOK X w own cc nL fr lo tb ret nm) {z : Int} {v : Int32} (hdg : decode cc pc = .ok (.iconst z, 1)) (hv : Int32.ofInt z = v) (kk : Z X w nL Q S k n lv (pc + 1) (.int v :: st)) : Z X w nL Q S k n lv pc (st) := fun h9 H9 l9 s9 c9 n9 a1 a2 a3 a4 a5 a6 => lv_iconst E.1 E.2.1 hdg hv (kk h9 H9 l9 s9 c9 n9 a1 a2 a3 a4 a5 a6)
theorem z_bipush (E : zOK X w own cc nL fr lo tb ret nm) {z : Int} {v : Int32} (hdg : decode cc pc = .ok (.bipush z, 2)) (hv : (Int8.ofInt z).toInt32 = v) (kk : Z X w nL Q S k n lv (pc + 2) (.int v :: st)) : Z X w nL Q S k n lv pc (st) := fun h9 H9 l9 s9 c9 n9 a1 a2 a3 a4 a5 a6 => lv_bipush E.1 E.2.1 hdg hv (kk h9 H9 l9 s9 c9 n9 a1 a2 a3 a4 a5 a6)
theorem z_sipush (E : zOK X w own cc nL fr lo tb ret nm) {z : Int} {v : Int32} (hdg : decode cc pc = .ok (.sipush z, 3)) (hv : (Int16.ofInt z).toInt32 = v) (kk : Z X w nL Q S k n lv (pc + 3) (.int v :: st)) : Z X w nL Q S k n lv pc (st) := fun h9 H9 l9 s9 c9 n9 a1 a2 a3 a4 a5 a6 => lv_sipush E.1 E.2.1 hdg hv (kk h9 H9 l9 s9 c9 n9 a1 a2 a3 a4 a5 a6)
theorem z_iload_n (E : zOK X w own cc nL fr lo tb ret nm) {r : Fin 4} {i : Nat} {x : Int32} (hdg : decode cc pc = .ok (.iload_n r, 1)) (hi : (r : Nat) = i) (j : Nat) (hl : lv[j]? = some (i, .int x)) (kk : Z X w nL Q S k n lv (pc + 1) (.int x :: st)) : Z X w nL Q S k n lv pc (st) := fun h9 H9 l9 s9 c9 n9 a1 a2 a3 a4 a5 a6 => lv_iload_n E.1 E.2.1 hdg hi (lv_at a4 j hl) (kk h9 H9 l9 s9 c9 n9 a1 a2 a3 a4 a5 a6)
theorem z_iload (E : zOK X w own cc nL fr lo tb ret nm) {i : Nat} {x : Int32} (hdg : decode cc pc = .ok (.iload i, 2)) (j : Nat) (hl : lv[j]? = some (i, .int x)) (kk : Z X w nL Q S k n lv (pc + 2) (.int x :: st)) : Z X w nL Q S k n lv pc (st) := fun h9 H9 l9 s9 c9 n9 a1 a2 a3 a4 a5 a6 => lv_iload E.1 E.2.1 hdg (lv_at a4 j hl) (kk h9 H9 l9 s9 c9 n9 a1 a2 a3 a4 a5 a6)
theorem z_aload_n (E : zOK X w own cc nL fr lo tb ret nm) {r : Fin 4} {i : Nat} {x : Nat} (hdg : decode cc pc = .ok (.aload_n r, 1)) (hi : (r : Nat) = i) (j : Nat) (hl : lv[j]? = some (i, .ref x)) (kk : Z X w nL Q S k n lv (pc + 1) (.ref x :: st)) : Z X w nL Q S k n lv pc (st) := fun h9 H9 l9 s9 c9 n9 a1 a2 a3 a4 a5 a6 => lv_aload_n E.1 E.2.1 hdg hi (lv_at a4 j hl) (kk h9 H9 l9 s9 c9 n9 a1 a2 a3 a4 a5 a6)
theorem z_aload (E : zOK X w own cc nL fr lo tb ret nm) {i : Nat} {x : Nat} (hdg : decode cc pc = .ok (.aload i, 2)) (j : Nat) (hl : lv[j]? = some (i, .ref x)) (kk : Z X w nL Q S k n lv (pc + 2) (.ref x :: st)) : Z X w nL Q S k n lv pc (st) := fun h9 H9 l9 s9 c9 n9 a1 a2 a3 a4 a5 a6 => lv_aload E.1 E.2.1 hdg (lv_at a4 j hl) (kk h9 H9 l9 s9 c9 n9 a1 a2 a3 a4 a5 a6)
theorem z_istore_n (E : zOK X w own cc nL fr lo tb ret nm) {r : Fin 4} {i : Nat} {x : Int32} {lv' : List (Nat × Value)} (hdg : decode cc pc = .ok (.istore_n r, 1)) (hi : (r : Nat) = i) (hn : i < nL) (hl : (i, Value.int x) :: lv.filter (fun q => !(q.1 == i) && !(q.1 + 1 == i && q.2.category == 2)) = lv') (kk : Z X w nL Q S k n lv' (pc + 1) st) : Z X w nL Q S k n lv pc (.int x :: st) := fun h9 H9 l9 s9 c9 n9 a1 a2 a3 a4 a5 a6 => lv_istore_n E.1 E.2.1 hdg hi a4 hn hl (fun s8 hl' => kk h9 H9 l9 s8 c9 n9 a1 a2 a3 hl' a5 a6)
theorem z_istore (E : zOK X w own cc nL fr lo tb ret nm) {i : Nat} {x : Int32} {lv' : List (Nat × Value)} (hdg : decode cc pc = .ok (.istore i, 2)) (hn : i < nL) (hl : (i, Value.int x) :: lv.filter (fun q => !(q.1 == i) && !(q.1 + 1 == i && q.2.category == 2)) = lv') (kk : Z X w nL Q S k n lv' (pc + 2) st) : Z X w nL Q S k n lv pc (.int x :: st) := fun h9 H9 l9 s9 c9 n9 a1 a2 a3 a4 a5 a6 => lv_istore E.1 E.2.1 hdg a4 hn hl (fun s8 hl' => kk h9 H9 l9 s8 c9 n9 a1 a2 a3 hl' a5 a6)
theorem z_astore_n (E : zOK X w own cc nL fr lo tb ret nm) {r : Fin 4} {i : Nat} {x : Nat} {lv' : List (Nat × Value)} (hdg : decode cc pc = .ok (.astore_n r, 1)) (hi : (r : Nat) = i) (hn : i < nL) (hl : (i, Value.ref x) :: lv.filter (fun q => !(q.1 == i) && !(q.1 + 1 == i && q.2.category == 2)) = lv') (kk : Z X w nL Q S k n lv' (pc + 1) st) : Z X w nL Q S k n lv pc (.ref x :: st) := fun h9 H9 l9 s9 c9 n9 a1 a2 a3 a4 a5 a6 => lv_astore_n E.1 E.2.1 hdg hi a4 hn hl (fun s8 hl' => kk h9 H9 l9 s8 c9 n9 a1 a2 a3 hl' a5 a6)
theorem z_astore (E : zOK X w own cc nL fr lo tb ret nm) {i : Nat} {x : Nat} {lv' : List (Nat × Value)} (hdg : decode cc pc = .ok (.astore i, 2)) (hn : i < nL) (hl : (i, Value.ref x) :: lv.filter (fun q => !(q.1 == i) && !(q.1 + 1 == i && q.2.category == 2)) = lv') (kk : Z X w nL Q S k n lv' (pc + 2) st) : Z X w nL Q S k n lv pc (.ref x :: st) := fun h9 H9 l9 s9 c9 n9 a1 a2 a3 a4 a5 a6 => lv_astore E.1 E.2.1 hdg a4 hn hl (fun s8 hl' => kk h9 H9 l9 s8 c9 n9 a1 a2 a3 hl' a5 a6)
theorem z_iinc (E : zOK X w own cc nL fr lo tb ret nm) {i j : Nat} {z : Int} {x v : Int32} {lv' : List (Nat × Value)} (hdg : decode cc pc = .ok (.iinc i z, 3)) (hk : lv[j]? = some (i, .int x)) (hv : x + Int32.ofInt z = v) (hn : i < nL) (hl : (i, Value.int v) :: lv.filter (fun q => !(q.1 == i) && !(q.1 + 1 == i && q.2.category == 2)) = lv') (kk : Z X w nL Q S k n lv' (pc + 3) st) : Z X w nL Q S k n lv pc st := fun h9 H9 l9 s9 c9 n9 a1 a2 a3 a4 a5 a6 => lv_iinc E.1 E.2.1 hdg a4 hk hv hn hl (fun s8 hl' => kk h9 H9 l9 s8 c9 n9 a1 a2 a3 hl' a5 a6)
theorem z_iadd (E : zOK X w own cc nL fr lo tb ret nm) {x y : Int32} (hdg : decode cc pc = .ok (.iadd, 1)) (kk : Z X w nL Q S k n lv (pc + 1) (.int (x + y) :: st)) : Z X w nL Q S k n lv pc (.int y :: .int x :: st) := fun h9 H9 l9 s9 c9 n9 a1 a2 a3 a4 a5 a6 => lv_iadd E.1 E.2.1 hdg (kk h9 H9 l9 s9 c9 n9 a1 a2 a3 a4 a5 a6)
theorem z_isub (E : zOK X w own cc nL fr lo tb ret nm) {x y : Int32} (hdg : decode cc pc = .ok (.isub, 1)) (kk : Z X w nL Q S k n lv (pc + 1) (.int (x - y) :: st)) : Z X w nL Q S k n lv pc (.int y :: .int x :: st) := fun h9 H9 l9 s9 c9 n9 a1 a2 a3 a4 a5 a6 => lv_isub E.1 E.2.1 hdg (kk h9 H9 l9 s9 c9 n9 a1 a2 a3 a4 a5 a6)
theorem z_imul (E : zOK X w own cc nL fr lo tb ret nm) {x y : Int32} (hdg : decode cc pc = .ok (.imul, 1)) (kk : Z X w nL Q S k n lv (pc + 1) (.int (x * y) :: st)) : Z X w nL Q S k n lv pc (.int y :: .int x :: st) := fun h9 H9 l9 s9 c9 n9 a1 a2 a3 a4 a5 a6 => lv_imul E.1 E.2.1 hdg (kk h9 H9 l9 s9 c9 n9 a1 a2 a3 a4 a5 a6)
theorem z_iand (E : zOK X w own cc nL fr lo tb ret nm) {x y : Int32} (hdg : decode cc pc = .ok (.iand, 1)) (kk : Z X w nL Q S k n lv (pc + 1) (.int (x &&& y) :: st)) : Z X w nL Q S k n lv pc (.int y :: .int x :: st) := fun h9 H9 l9 s9 c9 n9 a1 a2 a3 a4 a5 a6 => lv_iand E.1 E.2.1 hdg (kk h9 H9 l9 s9 c9 n9 a1 a2 a3 a4 a5 a6)
theorem z_ior (E : zOK X w own cc nL fr lo tb ret nm) {x y : Int32} (hdg : decode cc pc = .ok (.ior, 1)) (kk : Z X w nL Q S k n lv (pc + 1) (.int (x ||| y) :: st)) : Z X w nL Q S k n lv pc (.int y :: .int x :: st) := fun h9 H9 l9 s9 c9 n9 a1 a2 a3 a4 a5 a6 => lv_ior E.1 E.2.1 hdg (kk h9 H9 l9 s9 c9 n9 a1 a2 a3 a4 a5 a6)
theorem z_idiv (E : zOK X w own cc nL fr lo tb ret nm) {x y : Int32} (hdg : decode cc pc = .ok (.idiv, 1)) (hne : ¬ y = 0) (kk : Z X w nL Q S k n lv (pc + 1) (.int (x / y) :: st)) : Z X w nL Q S k n lv pc (.int y :: .int x :: st) := fun h9 H9 l9 s9 c9 n9 a1 a2 a3 a4 a5 a6 => lv_idiv E.1 E.2.1 hdg hne (kk h9 H9 l9 s9 c9 n9 a1 a2 a3 a4 a5 a6)
theorem z_irem (E : zOK X w own cc nL fr lo tb ret nm) {x y : Int32} (hdg : decode cc pc = .ok (.irem, 1)) (hne : ¬ y = 0) (kk : Z X w nL Q S k n lv (pc + 1) (.int (x - x / y * y) :: st)) : Z X w nL Q S k n lv pc (.int y :: .int x :: st) := fun h9 H9 l9 s9 c9 n9 a1 a2 a3 a4 a5 a6 => lv_irem E.1 E.2.1 hdg hne (kk h9 H9 l9 s9 c9 n9 a1 a2 a3 a4 a5 a6)
theorem z_ineg (E : zOK X w own cc nL fr lo tb ret nm) {x : Int32} (hdg : decode cc pc = .ok (.ineg, 1)) (kk : Z X w nL Q S k n lv (pc + 1) (.int (-x) :: st)) : Z X w nL Q S k n lv pc (.int x :: st) := fun h9 H9 l9 s9 c9 n9 a1 a2 a3 a4 a5 a6 => lv_ineg E.1 E.2.1 hdg (kk h9 H9 l9 s9 c9 n9 a1 a2 a3 a4 a5 a6)
theorem z_ishl (E : zOK X w own cc nL fr lo tb ret nm) {x y : Int32} (hdg : decode cc pc = .ok (.ishl, 1)) (kk : Z X w nL Q S k n lv (pc + 1) (.int (x <<< (y &&& 31)) :: st)) : Z X w nL Q S k n lv pc (.int y :: .int x :: st) := fun h9 H9 l9 s9 c9 n9 a1 a2 a3 a4 a5 a6 => lv_ishl E.1 E.2.1 hdg (kk h9 H9 l9 s9 c9 n9 a1 a2 a3 a4 a5 a6)
theorem z_ishr (E : zOK X w own cc nL fr lo tb ret nm) {x y : Int32} (hdg : decode cc pc = .ok (.ishr, 1)) (kk : Z X w nL Q S k n lv (pc + 1) (.int (x >>> (y &&& 31)) :: st)) : Z X w nL Q S k n lv pc (.int y :: .int x :: st) := fun h9 H9 l9 s9 c9 n9 a1 a2 a3 a4 a5 a6 => lv_ishr E.1 E.2.1 hdg (kk h9 H9 l9 s9 c9 n9 a1 a2 a3 a4 a5 a6)
theorem z_i2b (E : zOK X w own cc nL fr lo tb ret nm) {x : Int32} {v : Int32} (hdg : decode cc pc = .ok (.i2b, 1)) (hv : x.toInt8.toInt32 = v) (kk : Z X w nL Q S k n lv (pc + 1) (.int v :: st)) : Z X w nL Q S k n lv pc (.int x :: st) := fun h9 H9 l9 s9 c9 n9 a1 a2 a3 a4 a5 a6 => lv_i2b E.1 E.2.1 hdg hv (kk h9 H9 l9 s9 c9 n9 a1 a2 a3 a4 a5 a6)
theorem z_i2c (E : zOK X w own cc nL fr lo tb ret nm) {x : Int32} {v : Int32} (hdg : decode cc pc = .ok (.i2c, 1)) (hv : (x.toUInt32 % 65536).toInt32 = v) (kk : Z X w nL Q S k n lv (pc + 1) (.int v :: st)) : Z X w nL Q S k n lv pc (.int x :: st) := fun h9 H9 l9 s9 c9 n9 a1 a2 a3 a4 a5 a6 => lv_i2c E.1 E.2.1 hdg hv (kk h9 H9 l9 s9 c9 n9 a1 a2 a3 a4 a5 a6)
theorem z_iushr (E : zOK X w own cc nL fr lo tb ret nm) {x y v : Int32} (hdg : decode cc pc = .ok (.iushr, 1)) (hv : (x.toUInt32 >>> (y.toUInt32 &&& Int32.toUInt32 31)).toInt32 = v) (kk : Z X w nL Q S k n lv (pc + 1) (.int v :: st)) : Z X w nL Q S k n lv pc (.int y :: .int x :: st) := fun h9 H9 l9 s9 c9 n9 a1 a2 a3 a4 a5 a6 => lv_iushr E.1 E.2.1 hdg hv (kk h9 H9 l9 s9 c9 n9 a1 a2 a3 a4 a5 a6)
theorem z_dup (E : zOK X w own cc nL fr lo tb ret nm) {va : Value} (hdg : decode cc pc = .ok (.dup, 1)) (hva : va.category = 1) (kk : Z X w nL Q S k n lv (pc + 1) (va :: va :: st)) : Z X w nL Q S k n lv pc (va :: st) := fun h9 H9 l9 s9 c9 n9 a1 a2 a3 a4 a5 a6 => lv_dup E.1 E.2.1 hdg hva (kk h9 H9 l9 s9 c9 n9 a1 a2 a3 a4 a5 a6)
theorem z_pop (E : zOK X w own cc nL fr lo tb ret nm) {va : Value} (hdg : decode cc pc = .ok (.pop, 1)) (hva : va.category = 1) (kk : Z X w nL Q S k n lv (pc + 1) (st)) : Z X w nL Q S k n lv pc (va :: st) := fun h9 H9 l9 s9 c9 n9 a1 a2 a3 a4 a5 a6 => lv_pop E.1 E.2.1 hdg hva (kk h9 H9 l9 s9 c9 n9 a1 a2 a3 a4 a5 a6)
theorem z_dup_x1 (E : zOK X w own cc nL fr lo tb ret nm) {va vb : Value} (hdg : decode cc pc = .ok (.dup_x1, 1)) (hva : va.category = 1) (hvb : vb.category = 1) (kk : Z X w nL Q S k n lv (pc + 1) (va :: vb :: va :: st)) : Z X w nL Q S k n lv pc (va :: vb :: st) := fun h9 H9 l9 s9 c9 n9 a1 a2 a3 a4 a5 a6 => lv_dup_x1 E.1 E.2.1 hdg hva hvb (kk h9 H9 l9 s9 c9 n9 a1 a2 a3 a4 a5 a6)
theorem z_dup2_11 (E : zOK X w own cc nL fr lo tb ret nm) {va vb : Value} (hdg : decode cc pc = .ok (.dup2, 1)) (hva : va.category = 1) (hvb : vb.category = 1) (kk : Z X w nL Q S k n lv (pc + 1) (va :: vb :: va :: vb :: st)) : Z X w nL Q S k n lv pc (va :: vb :: st) := fun h9 H9 l9 s9 c9 n9 a1 a2 a3 a4 a5 a6 => lv_dup2_11 E.1 E.2.1 hdg hva hvb (kk h9 H9 l9 s9 c9 n9 a1 a2 a3 a4 a5 a6)
theorem z_if_eq (E : zOK X w own cc nL fr lo tb ret nm) {x : Int32} {off : Int} {tgt : Nat} (hdg : decode cc pc = .ok (.ifCond .eq off, 3)) (ht : (pc : Int) + off = (tgt : Int)) (kt : x = 0 → Z X w nL Q S k n lv tgt st) (kf : ¬ x = 0 → Z X w nL Q S k n lv (pc + 3) st) : Z X w nL Q S k n lv pc (.int x :: st) := fun h9 H9 l9 s9 c9 n9 a1 a2 a3 a4 a5 a6 => lv_if_eq E.1 E.2.1 hdg ht (fun q => kt q h9 H9 l9 s9 c9 n9 a1 a2 a3 a4 a5 a6) (fun q => kf q h9 H9 l9 s9 c9 n9 a1 a2 a3 a4 a5 a6)
theorem z_if_ne (E : zOK X w own cc nL fr lo tb ret nm) {x : Int32} {off : Int} {tgt : Nat} (hdg : decode cc pc = .ok (.ifCond .ne off, 3)) (ht : (pc : Int) + off = (tgt : Int)) (kt : ¬ x = 0 → Z X w nL Q S k n lv tgt st) (kf : x = 0 → Z X w nL Q S k n lv (pc + 3) st) : Z X w nL Q S k n lv pc (.int x :: st) := fun h9 H9 l9 s9 c9 n9 a1 a2 a3 a4 a5 a6 => lv_if_ne E.1 E.2.1 hdg ht (fun q => kt q h9 H9 l9 s9 c9 n9 a1 a2 a3 a4 a5 a6) (fun q => kf q h9 H9 l9 s9 c9 n9 a1 a2 a3 a4 a5 a6)
theorem z_if_lt (E : zOK X w own cc nL fr lo tb ret nm) {x : Int32} {off : Int} {tgt : Nat} (hdg : decode cc pc = .ok (.ifCond .lt off, 3)) (ht : (pc : Int) + off = (tgt : Int)) (kt : x < 0 → Z X w nL Q S k n lv tgt st) (kf : ¬ x < 0 → Z X w nL Q S k n lv (pc + 3) st) : Z X w nL Q S k n lv pc (.int x :: st) := fun h9 H9 l9 s9 c9 n9 a1 a2 a3 a4 a5 a6 => lv_if_lt E.1 E.2.1 hdg ht (fun q => kt q h9 H9 l9 s9 c9 n9 a1 a2 a3 a4 a5 a6) (fun q => kf q h9 H9 l9 s9 c9 n9 a1 a2 a3 a4 a5 a6)
theorem z_if_ge (E : zOK X w own cc nL fr lo tb ret nm) {x : Int32} {off : Int} {tgt : Nat} (hdg : decode cc pc = .ok (.ifCond .ge off, 3)) (ht : (pc : Int) + off = (tgt : Int)) (kt : 0 ≤ x → Z X w nL Q S k n lv tgt st) (kf : ¬ 0 ≤ x → Z X w nL Q S k n lv (pc + 3) st) : Z X w nL Q S k n lv pc (.int x :: st) := fun h9 H9 l9 s9 c9 n9 a1 a2 a3 a4 a5 a6 => lv_if_ge E.1 E.2.1 hdg ht (fun q => kt q h9 H9 l9 s9 c9 n9 a1 a2 a3 a4 a5 a6) (fun q => kf q h9 H9 l9 s9 c9 n9 a1 a2 a3 a4 a5 a6)
theorem z_if_gt (E : zOK X w own cc nL fr lo tb ret nm) {x : Int32} {off : Int} {tgt : Nat} (hdg : decode cc pc = .ok (.ifCond .gt off, 3)) (ht : (pc : Int) + off = (tgt : Int)) (kt : 0 < x → Z X w nL Q S k n lv tgt st) (kf : ¬ 0 < x → Z X w nL Q S k n lv (pc + 3) st) : Z X w nL Q S k n lv pc (.int x :: st) := fun h9 H9 l9 s9 c9 n9 a1 a2 a3 a4 a5 a6 => lv_if_gt E.1 E.2.1 hdg ht (fun q => kt q h9 H9 l9 s9 c9 n9 a1 a2 a3 a4 a5 a6) (fun q => kf q h9 H9 l9 s9 c9 n9 a1 a2 a3 a4 a5 a6)
theorem z_if_le (E : zOK X w own cc nL fr lo tb ret nm) {x : Int32} {off : Int} {tgt : Nat} (hdg : decode cc pc = .ok (.ifCond .le off, 3)) (ht : (pc : Int) + off = (tgt : Int)) (kt : x ≤ 0 → Z X w nL Q S k n lv tgt st) (kf : ¬ x ≤ 0 → Z X w nL Q S k n lv (pc + 3) st) : Z X w nL Q S k n lv pc (.int x :: st) := fun h9 H9 l9 s9 c9 n9 a1 a2 a3 a4 a5 a6 => lv_if_le E.1 E.2.1 hdg ht (fun q => kt q h9 H9 l9 s9 c9 n9 a1 a2 a3 a4 a5 a6) (fun q => kf q h9 H9 l9 s9 c9 n9 a1 a2 a3 a4 a5 a6)
theorem z_icmp_eq (E : zOK X w own cc nL fr lo tb ret nm) {x y : Int32} {off : Int} {tgt : Nat} (hdg : decode cc pc = .ok (.if_icmp .eq off, 3)) (ht : (pc : Int) + off = (tgt : Int)) (kt : x = y → Z X w nL Q S k n lv tgt st) (kf : ¬ x = y → Z X w nL Q S k n lv (pc + 3) st) : Z X w nL Q S k n lv pc (.int y :: .int x :: st) := fun h9 H9 l9 s9 c9 n9 a1 a2 a3 a4 a5 a6 => lv_icmp_eq E.1 E.2.1 hdg ht (fun q => kt q h9 H9 l9 s9 c9 n9 a1 a2 a3 a4 a5 a6) (fun q => kf q h9 H9 l9 s9 c9 n9 a1 a2 a3 a4 a5 a6)
theorem z_icmp_ne (E : zOK X w own cc nL fr lo tb ret nm) {x y : Int32} {off : Int} {tgt : Nat} (hdg : decode cc pc = .ok (.if_icmp .ne off, 3)) (ht : (pc : Int) + off = (tgt : Int)) (kt : ¬ x = y → Z X w nL Q S k n lv tgt st) (kf : x = y → Z X w nL Q S k n lv (pc + 3) st) : Z X w nL Q S k n lv pc (.int y :: .int x :: st) := fun h9 H9 l9 s9 c9 n9 a1 a2 a3 a4 a5 a6 => lv_icmp_ne E.1 E.2.1 hdg ht (fun q => kt q h9 H9 l9 s9 c9 n9 a1 a2 a3 a4 a5 a6) (fun q => kf q h9 H9 l9 s9 c9 n9 a1 a2 a3 a4 a5 a6)
theorem z_icmp_lt (E : zOK X w own cc nL fr lo tb ret nm) {x y : Int32} {off : Int} {tgt : Nat} (hdg : decode cc pc = .ok (.if_icmp .lt off, 3)) (ht : (pc : Int) + off = (tgt : Int)) (kt : x < y → Z X w nL Q S k n lv tgt st) (kf : ¬ x < y → Z X w nL Q S k n lv (pc + 3) st) : Z X w nL Q S k n lv pc (.int y :: .int x :: st) := fun h9 H9 l9 s9 c9 n9 a1 a2 a3 a4 a5 a6 => lv_icmp_lt E.1 E.2.1 hdg ht (fun q => kt q h9 H9 l9 s9 c9 n9 a1 a2 a3 a4 a5 a6) (fun q => kf q h9 H9 l9 s9 c9 n9 a1 a2 a3 a4 a5 a6)
theorem z_icmp_ge (E : zOK X w own cc nL fr lo tb ret nm) {x y : Int32} {off : Int} {tgt : Nat} (hdg : decode cc pc = .ok (.if_icmp .ge off, 3)) (ht : (pc : Int) + off = (tgt : Int)) (kt : y ≤ x → Z X w nL Q S k n lv tgt st) (kf : ¬ y ≤ x → Z X w nL Q S k n lv (pc + 3) st) : Z X w nL Q S k n lv pc (.int y :: .int x :: st) := fun h9 H9 l9 s9 c9 n9 a1 a2 a3 a4 a5 a6 => lv_icmp_ge E.1 E.2.1 hdg ht (fun q => kt q h9 H9 l9 s9 c9 n9 a1 a2 a3 a4 a5 a6) (fun q => kf q h9 H9 l9 s9 c9 n9 a1 a2 a3 a4 a5 a6)
theorem z_icmp_gt (E : zOK X w own cc nL fr lo tb ret nm) {x y : Int32} {off : Int} {tgt : Nat} (hdg : decode cc pc = .ok (.if_icmp .gt off, 3)) (ht : (pc : Int) + off = (tgt : Int)) (kt : y < x → Z X w nL Q S k n lv tgt st) (kf : ¬ y < x → Z X w nL Q S k n lv (pc + 3) st) : Z X w nL Q S k n lv pc (.int y :: .int x :: st) := fun h9 H9 l9 s9 c9 n9 a1 a2 a3 a4 a5 a6 => lv_icmp_gt E.1 E.2.1 hdg ht (fun q => kt q h9 H9 l9 s9 c9 n9 a1 a2 a3 a4 a5 a6) (fun q => kf q h9 H9 l9 s9 c9 n9 a1 a2 a3 a4 a5 a6)
theorem z_icmp_le (E : zOK X w own cc nL fr lo tb ret nm) {x y : Int32} {off : Int} {tgt : Nat} (hdg : decode cc pc = .ok (.if_icmp .le off, 3)) (ht : (pc : Int) + off = (tgt : Int)) (kt : x ≤ y → Z X w nL Q S k n lv tgt st) (kf : ¬ x ≤ y → Z X w nL Q S k n lv (pc + 3) st) : Z X w nL Q S k n lv pc (.int y :: .int x :: st) := fun h9 H9 l9 s9 c9 n9 a1 a2 a3 a4 a5 a6 => lv_icmp_le E.1 E.2.1 hdg ht (fun q => kt q h9 H9 l9 s9 c9 n9 a1 a2 a3 a4 a5 a6) (fun q => kf q h9 H9 l9 s9 c9 n9 a1 a2 a3 a4 a5 a6)
theorem z_goto (E : zOK X w own cc nL fr lo tb ret nm) {off : Int} {tgt : Nat} (hdg : decode cc pc = .ok (.goto off, 3)) (ht : (pc : Int) + off = (tgt : Int)) (kk : Z X w nL Q S k n lv tgt st) : Z X w nL Q S k n lv pc st := fun h9 H9 l9 s9 c9 n9 a1 a2 a3 a4 a5 a6 => lv_goto E.1 E.2.1 hdg ht (kk h9 H9 l9 s9 c9 n9 a1 a2 a3 a4 a5 a6)
theorem z_fconst0 (E : zOK X w own cc nL fr lo tb ret nm) (hdg : decode cc pc = .ok (.fconst 0, 1)) (kk : Z X w nL Q S k n lv (pc + 1) (.float FP.fconst0 :: st)) : Z X w nL Q S k n lv pc (st) := fun h9 H9 l9 s9 c9 n9 a1 a2 a3 a4 a5 a6 => lv_fconst0 E.1 E.2.1 hdg (kk h9 H9 l9 s9 c9 n9 a1 a2 a3 a4 a5 a6)
theorem z_dconst0 (E : zOK X w own cc nL fr lo tb ret nm) (hdg : decode cc pc = .ok (.dconst 0, 1)) (kk : Z X w nL Q S k n lv (pc + 1) (.double FP.dconst0 :: st)) : Z X w nL Q S k n lv pc (st) := fun h9 H9 l9 s9 c9 n9 a1 a2 a3 a4 a5 a6 => lv_dconst0 E.1 E.2.1 hdg (kk h9 H9 l9 s9 c9 n9 a1 a2 a3 a4 a5 a6)
theorem z_fdiv (E : zOK X w own cc nL fr lo tb ret nm) {x y : UInt32} (hdg : decode cc pc = .ok (.fdiv, 1)) (hne : vf_n32 (FP.fdiv x y)) (kk : Z X w nL Q S k n lv (pc + 1) (.float (FP.fdiv x y) :: st)) : Z X w nL Q S k n lv pc (.float y :: .float x :: st) := fun h9 H9 l9 s9 c9 n9 a1 a2 a3 a4 a5 a6 => lv_fdiv E.1 E.2.1 hdg hne (kk h9 H9 l9 s9 c9 n9 a1 a2 a3 a4 a5 a6)
theorem z_ddiv (E : zOK X w own cc nL fr lo tb ret nm) {x y : UInt64} (hdg : decode cc pc = .ok (.ddiv, 1)) (hne : vf_n64 (FP.ddiv x y)) (kk : Z X w nL Q S k n lv (pc + 1) (.double (FP.ddiv x y) :: st)) : Z X w nL Q S k n lv pc (.double y :: .double x :: st) := fun h9 H9 l9 s9 c9 n9 a1 a2 a3 a4 a5 a6 => lv_ddiv E.1 E.2.1 hdg hne (kk h9 H9 l9 s9 c9 n9 a1 a2 a3 a4 a5 a6)
theorem z_i2f (E : zOK X w own cc nL fr lo tb ret nm) {x : Int32} (hdg : decode cc pc = .ok (.i2f, 1)) (kk : Z X w nL Q S k n lv (pc + 1) (.float (FP.i2f x) :: st)) : Z X w nL Q S k n lv pc (.int x :: st) := fun h9 H9 l9 s9 c9 n9 a1 a2 a3 a4 a5 a6 => lv_i2f E.1 E.2.1 hdg (kk h9 H9 l9 s9 c9 n9 a1 a2 a3 a4 a5 a6)
theorem z_i2d (E : zOK X w own cc nL fr lo tb ret nm) {x : Int32} (hdg : decode cc pc = .ok (.i2d, 1)) (kk : Z X w nL Q S k n lv (pc + 1) (.double (FP.i2d x) :: st)) : Z X w nL Q S k n lv pc (.int x :: st) := fun h9 H9 l9 s9 c9 n9 a1 a2 a3 a4 a5 a6 => lv_i2d E.1 E.2.1 hdg (kk h9 H9 l9 s9 c9 n9 a1 a2 a3 a4 a5 a6)
theorem z_f2d (E : zOK X w own cc nL fr lo tb ret nm) {x : UInt32} (hdg : decode cc pc = .ok (.f2d, 1)) (hne : vf_n64 (FP.f2d x)) (kk : Z X w nL Q S k n lv (pc + 1) (.double (FP.f2d x) :: st)) : Z X w nL Q S k n lv pc (.float x :: st) := fun h9 H9 l9 s9 c9 n9 a1 a2 a3 a4 a5 a6 => lv_f2d E.1 E.2.1 hdg hne (kk h9 H9 l9 s9 c9 n9 a1 a2 a3 a4 a5 a6)
theorem z_dcmp (E : zOK X w own cc nL fr lo tb ret nm) {x y : UInt64} {op : CmpOp} (hdg : decode cc pc = .ok (.dcmp op, 1)) (kk : Z X w nL Q S k n lv (pc + 1) (.int (Op.cmpValue (FP.dcmp x y) op) :: st)) : Z X w nL Q S k n lv pc (.double y :: .double x :: st) := fun h9 H9 l9 s9 c9 n9 a1 a2 a3 a4 a5 a6 => lv_dcmp E.1 E.2.1 hdg (kk h9 H9 l9 s9 c9 n9 a1 a2 a3 a4 a5 a6)
theorem z_dload_n (E : zOK X w own cc nL fr lo tb ret nm) {r : Fin 4} {i : Nat} {x : UInt64} (hdg : decode cc pc = .ok (.dload_n r, 1)) (hi : (r : Nat) = i) (j : Nat) (hl : lv[j]? = some (i, .double x)) (kk : Z X w nL Q S k n lv (pc + 1) (.double x :: st)) : Z X w nL Q S k n lv pc (st) := fun h9 H9 l9 s9 c9 n9 a1 a2 a3 a4 a5 a6 => lv_dload_n E.1 E.2.1 hdg hi (lv_at a4 j hl) (kk h9 H9 l9 s9 c9 n9 a1 a2 a3 a4 a5 a6)
theorem z_dload (E : zOK X w own cc nL fr lo tb ret nm) {i : Nat} {x : UInt64} (hdg : decode cc pc = .ok (.dload i, 2)) (j : Nat) (hl : lv[j]? = some (i, .double x)) (kk : Z X w nL Q S k n lv (pc + 2) (.double x :: st)) : Z X w nL Q S k n lv pc (st) := fun h9 H9 l9 s9 c9 n9 a1 a2 a3 a4 a5 a6 => lv_dload E.1 E.2.1 hdg (lv_at a4 j hl) (kk h9 H9 l9 s9 c9 n9 a1 a2 a3 a4 a5 a6)
theorem z_dstore_n (E : zOK X w own cc nL fr lo tb ret nm) {r : Fin 4} {i : Nat} {x : UInt64} {lv' : List (Nat × Value)} (hdg : decode cc pc = .ok (.dstore_n r, 1)) (hi : (r : Nat) = i) (hn : i + 1 < nL) (hl : (i, Value.double x) :: lv.filter (fun q => !(q.1 == i) && (!(q.1 == i + 1) && !(q.1 + 1 == i && q.2.category == 2))) = lv') (kk : Z X w nL Q S k n lv' (pc + 1) st) : Z X w nL Q S k n lv pc (.double x :: st) := fun h9 H9 l9 s9 c9 n9 a1 a2 a3 a4 a5 a6 => lv_dstore_n E.1 E.2.1 hdg hi a4 hn hl (fun s8 hl' => kk h9 H9 l9 s8 c9 n9 a1 a2 a3 hl' a5 a6)
theorem z_dstore (E : zOK X w own cc nL fr lo tb ret nm) {i : Nat} {x : UInt64} {lv' : List (Nat × Value)} (hdg : decode cc pc = .ok (.dstore i, 2)) (hn : i + 1 < nL) (hl : (i, Value.double x) :: lv.filter (fun q => !(q.1 == i) && (!(q.1 == i + 1) && !(q.1 + 1 == i && q.2.category == 2))) = lv') (kk : Z X w nL Q S k n lv' (pc + 2) st) : Z X w nL Q S k n lv pc (.double x :: st) := fun h9 H9 l9 s9 c9 n9 a1 a2 a3 a4 a5 a6 => lv_dstore E.1 E.2.1 hdg a4 hn hl (fun s8 hl' => kk h9 H9 l9 s8 c9 n9 a1 a2 a3 hl' a5 a6)
theorem z_lookup (E : zOK X w own cc nL fr lo tb ret nm) {dflt : Int} {ps : Array (Int × Int)} {len : Nat} {x : Int32} {off : Int} {tgt : Nat} (hdg : decode cc pc = .ok (.lookupswitch dflt ps, len)) (hp : (ps.toList.zip (ps.toList.drop 1)).all (fun (a, next) => a.1 < next.1) = true) (ho : Op.lookupswitch.offset ps.toList dflt x.toInt = off) (ht : (pc : Int) + off = (tgt : Int)) (kk : Z X w nL Q S k n lv tgt st) : Z X w nL Q S k n lv pc (.int x :: st) := fun h9 H9 l9 s9 c9 n9 a1 a2 a3 a4 a5 a6 => lv_lookup E.1 E.2.1 hdg hp ho ht (kk h9 H9 l9 s9 c9 n9 a1 a2 a3 a4 a5 a6)
theorem z_tableOut (E : zOK X w own cc nL fr lo tb ret nm) {dflt lo hi : Int} {offs : Array Int} {len : Nat} {x : Int32} {tgt : Nat} (hdg : decode cc pc = .ok (.tableswitch dflt lo hi offs, len)) (h : x.toInt < lo ∨ hi < x.toInt) (ht : (pc : Int) + dflt = (tgt : Int)) (kk : Z X w nL Q S k n lv tgt st) : Z X w nL Q S k n lv pc (.int x :: st) := fun h9 H9 l9 s9 c9 n9 a1 a2 a3 a4 a5 a6 => lv_tableOut E.1 E.2.1 hdg h ht (kk h9 H9 l9 s9 c9 n9 a1 a2 a3 a4 a5 a6)
theorem z_tableIn (E : zOK X w own cc nL fr lo tb ret nm) {dflt lo hi : Int} {offs : Array Int} {len : Nat} {x : Int32} {off : Int} {tgt : Nat} (hdg : decode cc pc = .ok (.tableswitch dflt lo hi offs, len)) (h1 : ¬ x.toInt < lo) (h2 : ¬ hi < x.toInt) (ho : offs[(x.toInt - lo).toNat]? = some off) (ht : (pc : Int) + off = (tgt : Int)) (kk : Z X w nL Q S k n lv tgt st) : Z X w nL Q S k n lv pc (.int x :: st) := fun h9 H9 l9 s9 c9 n9 a1 a2 a3 a4 a5 a6 => lv_tableIn E.1 E.2.1 hdg h1 h2 ho ht (kk h9 H9 l9 s9 c9 n9 a1 a2 a3 a4 a5 a6)
theorem z_ifnonnull (E : zOK X w own cc nL fr lo tb ret nm) {x : Nat} {off : Int} {tgt : Nat} (hdg : decode cc pc = .ok (.ifnonnull off, 3)) (ht : (pc : Int) + off = (tgt : Int)) (kk : Z X w nL Q S k n lv tgt st) : Z X w nL Q S k n lv pc (.ref x :: st) := fun h9 H9 l9 s9 c9 n9 a1 a2 a3 a4 a5 a6 => lv_ifnonnull E.1 E.2.1 hdg ht (kk h9 H9 l9 s9 c9 n9 a1 a2 a3 a4 a5 a6)
theorem z_ifnull (E : zOK X w own cc nL fr lo tb ret nm) {x : Nat} {off : Int} (hdg : decode cc pc = .ok (.ifnull off, 3)) (kk : Z X w nL Q S k n lv (pc + 3) st) : Z X w nL Q S k n lv pc (.ref x :: st) := fun h9 H9 l9 s9 c9 n9 a1 a2 a3 a4 a5 a6 => lv_ifnull E.1 E.2.1 hdg (kk h9 H9 l9 s9 c9 n9 a1 a2 a3 a4 a5 a6)
theorem z_null (E : zOK X w own cc nL fr lo tb ret nm) (hdg : decode cc pc = .ok (.aconst_null, 1)) (kk : Z X w nL Q S k n lv (pc + 1) (.null :: st)) : Z X w nL Q S k n lv pc st := fun h9 H9 l9 s9 c9 n9 a1 a2 a3 a4 a5 a6 => lv_null E.1 E.2.1 hdg (kk h9 H9 l9 s9 c9 n9 a1 a2 a3 a4 a5 a6)
theorem z_ifnullN (E : zOK X w own cc nL fr lo tb ret nm) {off : Int} {tgt : Nat} (hdg : decode cc pc = .ok (.ifnull off, 3)) (ht : (pc : Int) + off = (tgt : Int)) (kk : Z X w nL Q S k n lv tgt st) : Z X w nL Q S k n lv pc (.null :: st) := fun h9 H9 l9 s9 c9 n9 a1 a2 a3 a4 a5 a6 => lv_ifnullN E.1 E.2.1 hdg ht (kk h9 H9 l9 s9 c9 n9 a1 a2 a3 a4 a5 a6)
theorem z_ifnonnullN (E : zOK X w own cc nL fr lo tb ret nm) {off : Int} (hdg : decode cc pc = .ok (.ifnonnull off, 3)) (kk : Z X w nL Q S k n lv (pc + 3) st) : Z X w nL Q S k n lv pc (.null :: st) := fun h9 H9 l9 s9 c9 n9 a1 a2 a3 a4 a5 a6 => lv_ifnonnullN E.1 E.2.1 hdg (kk h9 H9 l9 s9 c9 n9 a1 a2 a3 a4 a5 a6)
theorem z_aload_nN (E : zOK X w own cc nL fr lo tb ret nm) {r : Fin 4} {i : Nat} (hdg : decode cc pc = .ok (.aload_n r, 1)) (hi : (r : Nat) = i) (j : Nat) (hl : lv[j]? = some (i, .null)) (kk : Z X w nL Q S k n lv (pc + 1) (.null :: st)) : Z X w nL Q S k n lv pc (st) := fun h9 H9 l9 s9 c9 n9 a1 a2 a3 a4 a5 a6 => lv_aload_nN E.1 E.2.1 hdg hi (lv_at a4 j hl) (kk h9 H9 l9 s9 c9 n9 a1 a2 a3 a4 a5 a6)
theorem z_aloadN (E : zOK X w own cc nL fr lo tb ret nm) {i : Nat} (hdg : decode cc pc = .ok (.aload i, 2)) (j : Nat) (hl : lv[j]? = some (i, .null)) (kk : Z X w nL Q S k n lv (pc + 2) (.null :: st)) : Z X w nL Q S k n lv pc (st) := fun h9 H9 l9 s9 c9 n9 a1 a2 a3 a4 a5 a6 => lv_aloadN E.1 E.2.1 hdg (lv_at a4 j hl) (kk h9 H9 l9 s9 c9 n9 a1 a2 a3 a4 a5 a6)
theorem z_astore_nN (E : zOK X w own cc nL fr lo tb ret nm) {r : Fin 4} {i : Nat} {lv' : List (Nat × Value)} (hdg : decode cc pc = .ok (.astore_n r, 1)) (hi : (r : Nat) = i) (hn : i < nL) (hl : (i, Value.null) :: lv.filter (fun q => !(q.1 == i) && !(q.1 + 1 == i && q.2.category == 2)) = lv') (kk : Z X w nL Q S k n lv' (pc + 1) st) : Z X w nL Q S k n lv pc (.null :: st) := fun h9 H9 l9 s9 c9 n9 a1 a2 a3 a4 a5 a6 => lv_astore_nN E.1 E.2.1 hdg hi a4 hn hl (fun s8 hl' => kk h9 H9 l9 s8 c9 n9 a1 a2 a3 hl' a5 a6)
theorem z_astoreN (E : zOK X w own cc nL fr lo tb ret nm) {i : Nat} {lv' : List (Nat × Value)} (hdg : decode cc pc = .ok (.astore i, 2)) (hn : i < nL) (hl : (i, Value.null) :: lv.filter (fun q => !(q.1 == i) && !(q.1 + 1 == i && q.2.category == 2)) = lv') (kk : Z X w nL Q S k n lv' (pc + 2) st) : Z X w nL Q S k n lv pc (.null :: st) := fun h9 H9 l9 s9 c9 n9 a1 a2 a3 a4 a5 a6 => lv_astoreN E.1 E.2.1 hdg a4 hn hl (fun s8 hl' => kk h9 H9 l9 s8 c9 n9 a1 a2 a3 hl' a5 a6)
theorem z_acmp_eq (E : zOK X w own cc nL fr lo tb ret nm) {rx ry : Option Nat} {off : Int} {tgt : Nat} (hdg : decode cc pc = .ok (.if_acmp .eq off, 3)) (ht : (pc : Int) + off = (tgt : Int)) (kt : rx = ry → Z X w nL Q S k n lv tgt st) (kf : ¬ rx = ry → Z X w nL Q S k n lv (pc + 3) st) : Z X w nL Q S k n lv pc (va_rf ry :: va_rf rx :: st) := fun h9 H9 l9 s9 c9 n9 a1 a2 a3 a4 a5 a6 => lv_acmp_eq E.1 E.2.1 hdg ht (fun q => kt q h9 H9 l9 s9 c9 n9 a1 a2 a3 a4 a5 a6) (fun q => kf q h9 H9 l9 s9 c9 n9 a1 a2 a3 a4 a5 a6)
theorem z_acmp_ne (E : zOK X w own cc nL fr lo tb ret nm) {rx ry : Option Nat} {off : Int} {tgt : Nat} (hdg : decode cc pc = .ok (.if_acmp .ne off, 3)) (ht : (pc : Int) + off = (tgt : Int)) (kt : ¬ rx = ry → Z X w nL Q S k n lv tgt st) (kf : rx = ry → Z X w nL Q S k n lv (pc + 3) st) : Z X w nL Q S k n lv pc (va_rf ry :: va_rf rx :: st) := fun h9 H9 l9 s9 c9 n9 a1 a2 a3 a4 a5 a6 => lv_acmp_ne E.1 E.2.1 hdg ht (fun q => kt q h9 H9 l9 s9 c9 n9 a1 a2 a3 a4 a5 a6) (fun q => kf q h9 H9 l9 s9 c9 n9 a1 a2 a3 a4 a5 a6)
theorem z_castN (E : zOK X w own cc nL fr lo tb ret nm) {index : Nat} (hdg : decode cc pc = .ok (.checkcast index, 3)) (kk : Z X w nL Q S k n lv (pc + 3) (.null :: st)) : Z X w nL Q S k n lv pc (.null :: st) := fun h9 H9 l9 s9 c9 n9 a1 a2 a3 a4 a5 a6 => lv_castN E.1 E.2.1 hdg (kk h9 H9 l9 s9 c9 n9 a1 a2 a3 a4 a5 a6)
theorem z_instN (E : zOK X w own cc nL fr lo tb ret nm) {index : Nat} (hdg : decode cc pc = .ok (.instanceof index, 3)) (kk : Z X w nL Q S k n lv (pc + 3) (.int 0 :: st)) : Z X w nL Q S k n lv pc (.null :: st) := fun h9 H9 l9 s9 c9 n9 a1 a2 a3 a4 a5 a6 => lv_instN E.1 E.2.1 hdg (kk h9 H9 l9 s9 c9 n9 a1 a2 a3 a4 a5 a6)
end ZR
