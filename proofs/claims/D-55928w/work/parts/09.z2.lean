/-! Z rows on the heap, calls, entries and ends -/
set_option maxRecDepth 100000
section VXAT
variable {p : Program} {l : Launch} {e : Env} {R : Room} {s : State} {m : MethodId} {args : Array Value} {below : List Frame} {meth : Method} {c : Code} {H : Heap} {locs : List Loc} {cells slots : Nat} {Q : State → Prop} {ls : Array Slot} {rest : List Value}
theorem vx_athrow {cc : ByteArray} {pc : Nat} (hexec : p.tables.exec = Jvm.exec) (hb : c.code = cc) {q : Addr} (hdg : decode cc pc = .ok (.athrow, 1)) (k : vx_W p l e R s m args below meth c H locs cells slots Q (F0 m pc ls rest) q) : W p l e R s m args below meth c H locs cells slots Q (F0 m pc ls (.ref q :: rest)) := by
  intro T hT X
  obtain ⟨t, st, hq⟩ := k T hT X
  refine ⟨t, ?_, hq⟩
  have hdg' : decode c.code pc = .ok (.athrow, 1) := by rw [hb]; exact hdg
  jvm_step X.here [X.here.top, hexec, hdg', athrow.wp_sem]
  exact st
end VXAT
section ZS
variable {X : zX} {w : zWd} {own nm : String} {cc : ByteArray} {nL fr lo : Nat} {tb : zTb} {ret : Option FieldType} {Q : State → Prop} {S S' : zH → Prop} {k n k' n' : Nat} {lv : List (Nat × Value)} {pc : Nat} {st rest : List Value}
theorem zE_w (E : zOK X w own cc nL fr lo tb ret nm) {c : Cond} (h : c ∈ lw_all) : c.before (za X) (zs X) = true := E.2.2.2.2.1 c h
theorem zE_K (E : zOK X w own cc nL fr lo tb ret nm) : va_K w.1 zcl (ztys w) (zs X) := E.2.2.2.2.2.1.1
theorem zE_N (E : zOK X w own cc nL fr lo tb ret nm) {c : Cond} (h : c ∈ lw_tbl) (hn : zNw c = true) : va_Nw c (zs X) := E.2.2.2.2.2.1.2.1 c h hn
theorem zE_S (E : zOK X w own cc nL fr lo tb ret nm) : zSt w (zs X) := E.2.2.2.2.2.1.2.2
theorem zE_l (E : zOK X w own cc nL fr lo tb ret nm) : (zme X).locks = false := E.2.2.2.2.2.2.1
theorem zE_t (E : zOK X w own cc nL fr lo tb ret nm) : (zc X).exceptionTable.toList = tableOf tb := E.2.2.2.2.2.2.2.1
theorem zE_f (E : zOK X w own cc nL fr lo tb ret nm) : (zR X).frames = fr := E.2.2.2.2.2.2.2.2.1
theorem zE_o (E : zOK X w own cc nL fr lo tb ret nm) : (zR X).locals = lo := E.2.2.2.2.2.2.2.2.2.1
theorem zE_r (E : zOK X w own cc nL fr lo tb ret nm) : (zme X).sig.returnType = ret := E.2.2.2.2.2.2.2.2.2.2.1
theorem zE_n (E : zOK X w own cc nL fr lo tb ret nm) : (zme X).name = nm := E.2.2.2.2.2.2.2.2.2.2.2
/-- the receiver's cell and class -/
theorem zE_recv (E : zOK X w own cc nL fr lo tb ret nm) {h : zH} {H : Heap} {a ci N : Nat} {C : String} {T : u_T} {fs : List Value} (hp : zhp w h H) (hc : zcl[ci]? = some (C, T, N)) (he : h a = some (zo ci fs)) : ∃ cell : Cell, H[a]? = some cell ∧ cell.vm.isStatics = false ∧ (zs X).vm.findClass C = some cell.cls := by
  obtain ⟨q0, hq⟩ := zls_mem hp he
  exact va_recv (zE_K E) (zls_P hp) (q := (C, T, N)) hc hq
theorem zE_cell (E : zOK X w own cc nL fr lo tb ret nm) {h : zH} {H : Heap} {a ci N : Nat} {C : String} {T : u_T} {fs : List Value} (hp : zhp w h H) (hc : zcl[ci]? = some (C, T, N)) (he : h a = some (zo ci fs)) : ∃ cell : Cell, H[a]? = some cell ∧ cell.vm = .none ∧ (zs X).vm.findClass C = some cell.cls := by
  obtain ⟨r, h1, cell, q1, q2, q3, -⟩ := (hp.2.2 a _ he).2
  have hr : r = (C, T, N) := Option.some.inj (h1.symm.trans hc)
  subst hr
  exact ⟨cell, q1, q3, by rw [q2]; exact ((zE_K E).1 ci _ hc).2.1⟩
theorem z_get (E : zOK X w own cc nL fr lo tb ret nm) {C ref : String} {T : u_T} {N ci index a : Nat} {fs : List Value} {v : Value} (hin : ∀ wd ∈ u_ws C T N, wd ∈ lw_all) (hc : zcl[ci]? = some (C, T, N)) (f : Nat) (hf : f < N) (hlink : Cond.fieldLink own index ref (T f).2.1 (T f).2.2.1 ∈ lw_all) (hsame : ∀ x, (zs X).fieldFound? (T f).1 (T f).2.1 (T f).2.2.1 = some x → (zs X).fieldFound? ref (T f).2.1 (T f).2.2.1 = some x) (he : ∀ h, S h → h a = some (zo ci fs)) (hv : fs[f]? = some v) (hd : decode cc pc = .ok (.getfield index, 3)) (kk : Z X w nL Q S k n lv (pc + 3) (v :: st)) : Z X w nL Q S k n lv pc (.ref a :: st) := by
  intro h9 H9 l9 s9 c9 n9 a1 a2 a3 a4 a5 a6
  obtain ⟨q0, hq⟩ := zls_mem a2 (he h9 a1)
  exact va_get E.1 E.2.1 E.2.2.2.2.1 hin E.2.2.2.1 (zE_K E) (zls_P a2) q0 hq hc f hf (zE_w E hlink) hsame hv hd (kk h9 H9 l9 s9 c9 n9 a1 a2 a3 a4 a5 a6)
theorem z_getN (E : zOK X w own cc nL fr lo tb ret nm) {C ref host : String} {T : u_T} {N ci index a : Nat} {fs : List Value} {v : Value} (hin : ∀ wd ∈ u_ws C T N, wd ∈ lw_all) (hc : zcl[ci]? = some (C, T, N)) (f : Nat) (hf : f < N) (hlink : Cond.fieldLinkNest own index ref (T f).2.1 (T f).2.2.1 host ∈ lw_tbl) (hsame : ∀ x, (zs X).fieldFound? (T f).1 (T f).2.1 (T f).2.2.1 = some x → (zs X).fieldFound? ref (T f).2.1 (T f).2.2.1 = some x) (he : ∀ h, S h → h a = some (zo ci fs)) (hv : fs[f]? = some v) (hd : decode cc pc = .ok (.getfield index, 3)) (kk : Z X w nL Q S k n lv (pc + 3) (v :: st)) : Z X w nL Q S k n lv pc (.ref a :: st) := by
  intro h9 H9 l9 s9 c9 n9 a1 a2 a3 a4 a5 a6
  obtain ⟨q0, hq⟩ := zls_mem a2 (he h9 a1)
  exact va_getN E.1 E.2.1 E.2.2.2.2.1 hin E.2.2.2.1 (zE_K E) (zls_P a2) q0 hq hc f hf (va_Nw.use rfl (zE_N E hlink rfl)) hsame hv hd (kk h9 H9 l9 s9 c9 n9 a1 a2 a3 a4 a5 a6)
theorem z_put (E : zOK X w own cc nL fr lo tb ret nm) {C ref : String} {T : u_T} {N ci index a : Nat} {fs fs' : List Value} {v : Value} {ty : FieldType} (hin : ∀ wd ∈ u_ws C T N, wd ∈ lw_all) (ty0 : Nat → FieldType) (hty : ∀ k, k < N → parseFieldDescriptor (T k).2.2.1 = some (ty0 k)) (hnm : ∀ a, a < N → ∀ b, b < N → a ≠ b → (T a).2.1 ≠ (T b).2.1) (hc : zcl[ci]? = some (C, T, N)) (f : Nat) (hf : f < N) (hlink : Cond.fieldLink own index ref (T f).2.1 (T f).2.2.1 ∈ lw_all) (hsame : ∀ x, (zs X).fieldFound? (T f).1 (T f).2.1 (T f).2.2.1 = some x → (zs X).fieldFound? ref (T f).2.1 (T f).2.2.1 = some x) (hfin : (T f).2.2.2 = false) (hd9 : parseFieldDescriptor (T f).2.2.1 = some ty) (hn : narrow ty v = v) (hfit : fits ty v = true) (he : ∀ h, S h → h a = some (zo ci fs)) (hl : f < fs.length) (hfs : fs.set f v = fs') (hd : decode cc pc = .ok (.putfield index, 3)) (hS : ∀ h, S h → S' (zset h a (zo ci fs'))) (kk : Z X w nL Q S' k n lv (pc + 3) st) : Z X w nL Q S k n lv pc (v :: .ref a :: st) := by
  subst hfs
  intro h9 H9 l9 s9 c9 n9 a1 a2 a3 a4 a5 a6
  obtain ⟨q0, hq⟩ := zls_mem a2 (he h9 a1)
  exact va_put E.1 E.2.1 E.2.2.2.2.1 hin ty0 hty hnm E.2.2.2.1 (zE_K E) (zls_P a2) (zls_D a2) (zhp_S a2 a3) q0 hq hc f hf (zE_w E hlink) hsame hfin hd9 hn hfit hl hd (fun H1 L1 P1 D1 S1 => kk _ H1 L1 s9 c9 n9 (hS h9 a1) (zhp_put a2 (he h9 a1) hq rfl P1 S1) S1.2.2 a4 a5 a6)
theorem z_putN (E : zOK X w own cc nL fr lo tb ret nm) {C ref host : String} {T : u_T} {N ci index a : Nat} {fs fs' : List Value} {v : Value} {ty : FieldType} (hin : ∀ wd ∈ u_ws C T N, wd ∈ lw_all) (ty0 : Nat → FieldType) (hty : ∀ k, k < N → parseFieldDescriptor (T k).2.2.1 = some (ty0 k)) (hnm : ∀ a, a < N → ∀ b, b < N → a ≠ b → (T a).2.1 ≠ (T b).2.1) (hc : zcl[ci]? = some (C, T, N)) (f : Nat) (hf : f < N) (hlink : Cond.fieldLinkNest own index ref (T f).2.1 (T f).2.2.1 host ∈ lw_tbl) (hsame : ∀ x, (zs X).fieldFound? (T f).1 (T f).2.1 (T f).2.2.1 = some x → (zs X).fieldFound? ref (T f).2.1 (T f).2.2.1 = some x) (hfin : (T f).2.2.2 = false) (hd9 : parseFieldDescriptor (T f).2.2.1 = some ty) (hn : narrow ty v = v) (hfit : fits ty v = true) (he : ∀ h, S h → h a = some (zo ci fs)) (hl : f < fs.length) (hfs : fs.set f v = fs') (hd : decode cc pc = .ok (.putfield index, 3)) (hS : ∀ h, S h → S' (zset h a (zo ci fs'))) (kk : Z X w nL Q S' k n lv (pc + 3) st) : Z X w nL Q S k n lv pc (v :: .ref a :: st) := by
  subst hfs
  intro h9 H9 l9 s9 c9 n9 a1 a2 a3 a4 a5 a6
  obtain ⟨q0, hq⟩ := zls_mem a2 (he h9 a1)
  exact va_putN E.1 E.2.1 E.2.2.2.2.1 hin ty0 hty hnm E.2.2.2.1 (zE_K E) (zls_P a2) (zls_D a2) (zhp_S a2 a3) q0 hq hc f hf (va_Nw.use rfl (zE_N E hlink rfl)) hsame hfin hd9 hn hfit hl hd (fun H1 L1 P1 D1 S1 => kk _ H1 L1 s9 c9 n9 (hS h9 a1) (zhp_put a2 (he h9 a1) hq rfl P1 S1) S1.2.2 a4 a5 a6)
theorem z_putF (E : zOK X w own cc nL fr lo tb ret "<init>") {C ref : String} {T : u_T} {N ci index a : Nat} {fs fs' : List Value} {v : Value} {ty : FieldType} (hin : ∀ wd ∈ u_ws C T N, wd ∈ lw_all) (ty0 : Nat → FieldType) (hty : ∀ k, k < N → parseFieldDescriptor (T k).2.2.1 = some (ty0 k)) (hnm : ∀ a, a < N → ∀ b, b < N → a ≠ b → (T a).2.1 ≠ (T b).2.1) (hc : zcl[ci]? = some (C, T, N)) (f : Nat) (hf : f < N) (hlink : Cond.fieldLink own index ref (T f).2.1 (T f).2.2.1 ∈ lw_all) (hsame : ∀ x, (zs X).fieldFound? (T f).1 (T f).2.1 (T f).2.2.1 = some x → (zs X).fieldFound? ref (T f).2.1 (T f).2.2.1 = some x) (hfin : (T f).2.2.2 = true) (hdecl : (T f).1 = own) (hd9 : parseFieldDescriptor (T f).2.2.1 = some ty) (hn : narrow ty v = v) (hfit : fits ty v = true) (he : ∀ h, S h → h a = some (zo ci fs)) (hl : f < fs.length) (hfs : fs.set f v = fs') (hd : decode cc pc = .ok (.putfield index, 3)) (hS : ∀ h, S h → S' (zset h a (zo ci fs'))) (kk : Z X w nL Q S' k n lv (pc + 3) st) : Z X w nL Q S k n lv pc (v :: .ref a :: st) := by
  subst hfs
  intro h9 H9 l9 s9 c9 n9 a1 a2 a3 a4 a5 a6
  obtain ⟨q0, hq⟩ := zls_mem a2 (he h9 a1)
  exact va_putF E.1 E.2.1 E.2.2.2.2.1 hin ty0 hty hnm E.2.2.2.1 (zE_K E) (zls_P a2) (zls_D a2) (zhp_S a2 a3) q0 hq hc f hf (zE_w E hlink) hsame hfin (zE_n E) hdecl hd9 hn hfit hl hd (fun H1 L1 P1 D1 S1 => kk _ H1 L1 s9 c9 n9 (hS h9 a1) (zhp_put a2 (he h9 a1) hq rfl P1 S1) S1.2.2 a4 a5 a6)
theorem z_new (E : zOK X w own cc nL fr lo tb ret nm) {C : String} {T : u_T} {N ci index : Nat} {fs : List Value} {S' : Nat → zH → Prop} (hin : ∀ wd ∈ u_ws C T N, wd ∈ lw_all) (ty : Nat → FieldType) (hty : ∀ k, k < N → parseFieldDescriptor (T k).2.2.1 = some (ty k)) (hcl : Cond.classLink own index C ∈ lw_all) (hinst : Cond.instantiable C N ∈ lw_all) (hini : Cond.initialized C ∈ lw_all) (hc : zcl[ci]? = some (C, T, N)) (hfs : ∀ j, j < N → defaultValue (ty j) = vp_V fs j) (hk : 1 + k' ≤ k) (hn : N + n' ≤ n) (hd : decode cc pc = .ok (.new index, 3)) (hS : ∀ h a, S h → h a = none → S' a (zset h a (zo ci fs))) (kk : ∀ a, Z X w nL Q (S' a) k' n' lv (pc + 3) (.ref a :: st)) : Z X w nL Q S k n lv pc st := by
  intro h9 H9 l9 s9 c9 n9 a1 a2 a3 a4 a5 a6
  refine va_new E.1 E.2.1 E.2.2.2.2.1 hin ty hty E.2.2.2.1 (zE_w E hcl) (zE_w E hinst) (zE_w E hini) (zE_K E) (zls_P a2) (zls_D a2) (zhp_S a2 a3) (zhp_A w) hc hfs (by omega) (by omega) hd (fun q H1 P1 D1 S1 => ?_)
  obtain ⟨p1, p2⟩ := zhp_new (e := zo ci fs) a2 rfl P1 D1 S1
  exact kk q _ H1 l9 s9 _ _ (hS h9 q a1 p2) p1 a3 a4 (by omega) (by omega)
/-- the class of a made array is the one that the tables name -/
theorem zcA {cA cB : ClassId} {ty : FieldType} {U : State} (h1 : va_RA U cA ty) (h2 : va_RA U cB ty) : cA = cB := by
  cases ty with
  | object C =>
    obtain ⟨-, -, -, -, -, e1⟩ := h1
    obtain ⟨-, -, -, -, -, e2⟩ := h2
    exact Option.some.inj (e1.symm.trans e2)
  | _ => exact Option.some.inj (Eq.trans (Eq.symm h1) h2)
theorem zK_last {D : va_G} {cl : List vw_C} {tys : List (ClassId × FieldType)} {q : ClassId × FieldType} {U : State} (h : va_K D cl (tys ++ [q]) U) : va_RA U q.1 q.2 := (h.2 tys.length q (by simp)).2
theorem z_newi (E : zOK X w own cc nL fr lo tb ret nm) {x : Int32} {N : Nat} {S' : Nat → zH → Prop} (harr : Cond.arrayClass .int ∈ lw_all) (hx : ¬ x < 0) (hN : x.toNatClampNeg = N) (hb : N * 4 ≤ 536870912) (hk : 1 + k' ≤ k) (hn : N + n' ≤ n) (hd : decode cc pc = .ok (.newarray .int, 2)) (hS : ∀ h a, S h → h a = none → S' a (zset h a (zi N (fun _ => 0)))) (kk : ∀ a, Z X w nL Q (S' a) k' n' lv (pc + 2) (.ref a :: st)) : Z X w nL Q S k n lv pc (.int x :: st) := by
  intro h9 H9 l9 s9 c9 n9 a1 a2 a3 a4 a5 a6
  refine va_newa (atype := .int) (ty := .int) (a0 := (N, .inl (fun _ => 0))) E.1 E.2.1 (zE_w E harr) rfl (zE_K E) (zls_P a2) (zls_D a2) (zhp_S a2 a3) (zhp_A w) (fun _ => rfl) hx hN hb (by omega) (by omega) hd (fun q cA H1 K1 P1 D1 S1 => ?_)
  have hcA : cA = w.2.1 0 := zcA (zK_last K1) ((zE_K E).2 0 (w.2.1 0, .int) rfl).2
  subst hcA
  obtain ⟨p1, p2⟩ := zhp_new (e := zi N (fun _ => 0)) a2 rfl P1 D1 S1
  exact kk q _ H1 l9 s9 _ _ (hS h9 q a1 p2) p1 a3 a4 (by omega) (by omega)
theorem z_newb (E : zOK X w own cc nL fr lo tb ret nm) {x : Int32} {N : Nat} {S' : Nat → zH → Prop} (harr : Cond.arrayClass .byte ∈ lw_all) (hx : ¬ x < 0) (hN : x.toNatClampNeg = N) (hb : N * 1 ≤ 536870912) (hk : 1 + k' ≤ k) (hn : N + n' ≤ n) (hd : decode cc pc = .ok (.newarray .byte, 2)) (hS : ∀ h a, S h → h a = none → S' a (zset h a (zby N (fun _ => 0)))) (kk : ∀ a, Z X w nL Q (S' a) k' n' lv (pc + 2) (.ref a :: st)) : Z X w nL Q S k n lv pc (.int x :: st) := by
  intro h9 H9 l9 s9 c9 n9 a1 a2 a3 a4 a5 a6
  refine va_newa (atype := .byte) (ty := .byte) (a0 := (N, .inl (fun _ => 0))) E.1 E.2.1 (zE_w E harr) rfl (zE_K E) (zls_P a2) (zls_D a2) (zhp_S a2 a3) (zhp_A w) (fun _ => rfl) hx hN hb (by omega) (by omega) hd (fun q cA H1 K1 P1 D1 S1 => ?_)
  have hcA : cA = w.2.1 1 := zcA (zK_last K1) ((zE_K E).2 1 (w.2.1 1, .byte) rfl).2
  subst hcA
  obtain ⟨p1, p2⟩ := zhp_new (e := zby N (fun _ => 0)) a2 rfl P1 D1 S1
  exact kk q _ H1 l9 s9 _ _ (hS h9 q a1 p2) p1 a3 a4 (by omega) (by omega)
theorem z_newz (E : zOK X w own cc nL fr lo tb ret nm) {x : Int32} {N : Nat} {S' : Nat → zH → Prop} (harr : Cond.arrayClass .boolean ∈ lw_all) (hx : ¬ x < 0) (hN : x.toNatClampNeg = N) (hb : N * 1 ≤ 536870912) (hk : 1 + k' ≤ k) (hn : N + n' ≤ n) (hd : decode cc pc = .ok (.newarray .boolean, 2)) (hS : ∀ h a, S h → h a = none → S' a (zset h a (zbo N (fun _ => 0)))) (kk : ∀ a, Z X w nL Q (S' a) k' n' lv (pc + 2) (.ref a :: st)) : Z X w nL Q S k n lv pc (.int x :: st) := by
  intro h9 H9 l9 s9 c9 n9 a1 a2 a3 a4 a5 a6
  refine va_newa (atype := .boolean) (ty := .boolean) (a0 := (N, .inl (fun _ => 0))) E.1 E.2.1 (zE_w E harr) rfl (zE_K E) (zls_P a2) (zls_D a2) (zhp_S a2 a3) (zhp_A w) (fun _ => rfl) hx hN hb (by omega) (by omega) hd (fun q cA H1 K1 P1 D1 S1 => ?_)
  have hcA : cA = w.2.1 2 := zcA (zK_last K1) ((zE_K E).2 2 (w.2.1 2, .boolean) rfl).2
  subst hcA
  obtain ⟨p1, p2⟩ := zhp_new (e := zbo N (fun _ => 0)) a2 rfl P1 D1 S1
  exact kk q _ H1 l9 s9 _ _ (hS h9 q a1 p2) p1 a3 a4 (by omega) (by omega)
theorem z_newq (E : zOK X w own cc nL fr lo tb ret nm) {x : Int32} {N index : Nat} {S' : Nat → zH → Prop} (hcl : Cond.classLink own index "java/lang/Object" ∈ lw_all) (hx : ¬ x < 0) (hN : x.toNatClampNeg = N) (hb : N * 4 ≤ 536870912) (hk : 1 + k' ≤ k) (hn : N + n' ≤ n) (hd : decode cc pc = .ok (.anewarray index, 3)) (hS : ∀ h a, S h → h a = none → S' a (zset h a (zq N (fun _ => none)))) (kk : ∀ a, Z X w nL Q (S' a) k' n' lv (pc + 3) (.ref a :: st)) : Z X w nL Q S k n lv pc (.int x :: st) := by
  intro h9 H9 l9 s9 c9 n9 a1 a2 a3 a4 a5 a6
  refine va_newq E.1 E.2.1 E.2.2.2.1 (zE_w E hcl) (zE_S E).1 (zE_K E) (zls_P a2) (zls_D a2) (zhp_S a2 a3) (zhp_A w) hx hN hb (by omega) (by omega) hd (fun q cA H1 K1 P1 D1 S1 => ?_)
  have hcA : cA = w.2.1 3 := zcA (zK_last K1) ((zE_K E).2 3 (w.2.1 3, .object "java/lang/Object") rfl).2
  subst hcA
  obtain ⟨p1, p2⟩ := zhp_new (e := zq N (fun _ => none)) a2 rfl P1 D1 S1
  exact kk q _ H1 l9 s9 _ _ (hS h9 q a1 p2) p1 a3 a4 (by omega) (by omega)
theorem z_alen (E : zOK X w own cc nL fr lo tb ret nm) {a t : Nat} {x : vp_A} {ty : FieldType} {cA : ClassId} {v : Int32} (he : ∀ h, S h → h a = some (.inl (t, x))) (ht : (ztys w)[t]? = some (w.2.1 t, ty)) (hv : Int32.ofNat x.1 = v) (hd : decode cc pc = .ok (.arraylength, 1)) (kk : Z X w nL Q S k n lv (pc + 1) (.int v :: st)) : Z X w nL Q S k n lv pc (.ref a :: st) := by
  intro h9 H9 l9 s9 c9 n9 a1 a2 a3 a4 a5 a6
  obtain ⟨q0, hq⟩ := zls_mem a2 (he h9 a1)
  exact va_alen E.1 E.2.1 (zE_K E) (zls_P a2) q0 t hq ht hv hd (kk h9 H9 l9 s9 c9 n9 a1 a2 a3 a4 a5 a6)
theorem z_iald (E : zOK X w own cc nL fr lo tb ret nm) {a N : Nat} {f : Nat → Int32} {i v : Int32} (he : ∀ h, S h → h a = some (zi N f)) (hin : vp_in i N) (hv : f i.toNatClampNeg = v) (hd : decode cc pc = .ok (.iaload, 1)) (kk : Z X w nL Q S k n lv (pc + 1) (.int v :: st)) : Z X w nL Q S k n lv pc (.int i :: .ref a :: st) := by
  subst hv
  intro h9 H9 l9 s9 c9 n9 a1 a2 a3 a4 a5 a6
  obtain ⟨q0, hq⟩ := zls_mem a2 (he h9 a1)
  exact va_iald E.1 E.2.1 (zE_K E) (zls_P a2) q0 0 hq rfl hin hd (kk h9 H9 l9 s9 c9 n9 a1 a2 a3 a4 a5 a6)
theorem z_bald (E : zOK X w own cc nL fr lo tb ret nm) {a N : Nat} {f : Nat → Int32} {i v : Int32} (he : ∀ h, S h → h a = some (zby N f)) (hin : vp_in i N) (hv : f i.toNatClampNeg = v) (hd : decode cc pc = .ok (.baload, 1)) (kk : Z X w nL Q S k n lv (pc + 1) (.int v :: st)) : Z X w nL Q S k n lv pc (.int i :: .ref a :: st) := by
  subst hv
  intro h9 H9 l9 s9 c9 n9 a1 a2 a3 a4 a5 a6
  obtain ⟨q0, hq⟩ := zls_mem a2 (he h9 a1)
  exact va_bald E.1 E.2.1 (zE_K E) (zls_P a2) q0 1 hq rfl hin hd (kk h9 H9 l9 s9 c9 n9 a1 a2 a3 a4 a5 a6)
theorem z_zald (E : zOK X w own cc nL fr lo tb ret nm) {a N : Nat} {f : Nat → Int32} {i v : Int32} (he : ∀ h, S h → h a = some (zbo N f)) (hin : vp_in i N) (hv : f i.toNatClampNeg = v) (hd : decode cc pc = .ok (.baload, 1)) (kk : Z X w nL Q S k n lv (pc + 1) (.int v :: st)) : Z X w nL Q S k n lv pc (.int i :: .ref a :: st) := by
  subst hv
  intro h9 H9 l9 s9 c9 n9 a1 a2 a3 a4 a5 a6
  obtain ⟨q0, hq⟩ := zls_mem a2 (he h9 a1)
  exact va_zald E.1 E.2.1 (zE_K E) (zls_P a2) q0 2 hq rfl hin hd (kk h9 H9 l9 s9 c9 n9 a1 a2 a3 a4 a5 a6)
theorem z_aald (E : zOK X w own cc nL fr lo tb ret nm) {a N : Nat} {f : Nat → Option Nat} {i : Int32} {v : Value} (he : ∀ h, S h → h a = some (zq N f)) (hin : vp_in i N) (hv : va_rf (f i.toNatClampNeg) = v) (hd : decode cc pc = .ok (.aaload, 1)) (kk : Z X w nL Q S k n lv (pc + 1) (v :: st)) : Z X w nL Q S k n lv pc (.int i :: .ref a :: st) := by
  subst hv
  intro h9 H9 l9 s9 c9 n9 a1 a2 a3 a4 a5 a6
  obtain ⟨q0, hq⟩ := zls_mem a2 (he h9 a1)
  exact va_aldq E.1 E.2.1 (zE_K E) (zls_P a2) q0 3 hq rfl hin hd (kk h9 H9 l9 s9 c9 n9 a1 a2 a3 a4 a5 a6)
theorem z_iast (E : zOK X w own cc nL fr lo tb ret nm) {a N : Nat} {f f' : Nat → Int32} {i x : Int32} (he : ∀ h, S h → h a = some (zi N f)) (hin : vp_in i N) (hf : upd f i.toNatClampNeg x = f') (hd : decode cc pc = .ok (.iastore, 1)) (hS : ∀ h, S h → S' (zset h a (zi N f'))) (kk : Z X w nL Q S' k n lv (pc + 1) st) : Z X w nL Q S k n lv pc (.int x :: .int i :: .ref a :: st) := by
  subst hf
  intro h9 H9 l9 s9 c9 n9 a1 a2 a3 a4 a5 a6
  obtain ⟨q0, hq⟩ := zls_mem a2 (he h9 a1)
  exact va_iast E.1 E.2.1 (zE_K E) (zls_P a2) (zls_D a2) (zhp_S a2 a3) q0 0 hq rfl hin hd (fun H1 L1 P1 D1 S1 => kk _ H1 L1 s9 c9 n9 (hS h9 a1) (zhp_put a2 (he h9 a1) hq rfl P1 S1) S1.2.2 a4 a5 a6)
theorem z_bast (E : zOK X w own cc nL fr lo tb ret nm) {a N : Nat} {f f' : Nat → Int32} {i x : Int32} (he : ∀ h, S h → h a = some (zby N f)) (hin : vp_in i N) (hf : upd f i.toNatClampNeg (vp_nar .byte x) = f') (hd : decode cc pc = .ok (.bastore, 1)) (hS : ∀ h, S h → S' (zset h a (zby N f'))) (kk : Z X w nL Q S' k n lv (pc + 1) st) : Z X w nL Q S k n lv pc (.int x :: .int i :: .ref a :: st) := by
  subst hf
  intro h9 H9 l9 s9 c9 n9 a1 a2 a3 a4 a5 a6
  obtain ⟨q0, hq⟩ := zls_mem a2 (he h9 a1)
  exact va_bast E.1 E.2.1 (zE_K E) (zls_P a2) (zls_D a2) (zhp_S a2 a3) q0 1 hq rfl hin hd (fun H1 L1 P1 D1 S1 => kk _ H1 L1 s9 c9 n9 (hS h9 a1) (zhp_put a2 (he h9 a1) hq rfl P1 S1) S1.2.2 a4 a5 a6)
theorem z_zast (E : zOK X w own cc nL fr lo tb ret nm) {a N : Nat} {f f' : Nat → Int32} {i x : Int32} (he : ∀ h, S h → h a = some (zbo N f)) (hin : vp_in i N) (hf : upd f i.toNatClampNeg (vp_nar .boolean x) = f') (hd : decode cc pc = .ok (.bastore, 1)) (hS : ∀ h, S h → S' (zset h a (zbo N f'))) (kk : Z X w nL Q S' k n lv (pc + 1) st) : Z X w nL Q S k n lv pc (.int x :: .int i :: .ref a :: st) := by
  subst hf
  intro h9 H9 l9 s9 c9 n9 a1 a2 a3 a4 a5 a6
  obtain ⟨q0, hq⟩ := zls_mem a2 (he h9 a1)
  exact va_zast E.1 E.2.1 (zE_K E) (zls_P a2) (zls_D a2) (zhp_S a2 a3) q0 2 hq rfl hin hd (fun H1 L1 P1 D1 S1 => kk _ H1 L1 s9 c9 n9 (hS h9 a1) (zhp_put a2 (he h9 a1) hq rfl P1 S1) S1.2.2 a4 a5 a6)
theorem z_aast (E : zOK X w own cc nL fr lo tb ret nm) {a N v ci M : Nat} {C : String} {T : u_T} {fs : List Value} {f f' : Nat → Option Nat} {i : Int32} (he : ∀ h, S h → h a = some (zq N f)) (hv : ∀ h, S h → h v = some (zo ci fs)) (hc : zcl[ci]? = some (C, T, M)) (hca : Cond.castable C "java/lang/Object" ∈ lw_tbl) (hin : vp_in i N) (hf : va_up f i.toNatClampNeg (some v) = f') (hd : decode cc pc = .ok (.aastore, 1)) (hS : ∀ h, S h → S' (zset h a (zq N f'))) (kk : Z X w nL Q S' k n lv (pc + 1) st) : Z X w nL Q S k n lv pc (.ref v :: .int i :: .ref a :: st) := by
  subst hf
  intro h9 H9 l9 s9 c9 n9 a1 a2 a3 a4 a5 a6
  obtain ⟨q0, hq⟩ := zls_mem a2 (he h9 a1)
  obtain ⟨q1, hq1⟩ := zls_mem a2 (hv h9 a1)
  exact va_astqO E.1 E.2.1 (zE_K E) (zls_P a2) (zls_D a2) (zhp_S a2 a3) q0 3 q1 ci (r := (C, T, M)) hq rfl (zE_N E hca rfl) hq1 hc hin hd (fun H1 L1 P1 D1 S1 => kk _ H1 L1 s9 c9 n9 (hS h9 a1) (zhp_put a2 (he h9 a1) hq rfl P1 S1) S1.2.2 a4 a5 a6)
theorem z_aastN (E : zOK X w own cc nL fr lo tb ret nm) {a N : Nat} {f f' : Nat → Option Nat} {i : Int32} (he : ∀ h, S h → h a = some (zq N f)) (hin : vp_in i N) (hf : va_up f i.toNatClampNeg none = f') (hd : decode cc pc = .ok (.aastore, 1)) (hS : ∀ h, S h → S' (zset h a (zq N f'))) (kk : Z X w nL Q S' k n lv (pc + 1) st) : Z X w nL Q S k n lv pc (.null :: .int i :: .ref a :: st) := by
  subst hf
  intro h9 H9 l9 s9 c9 n9 a1 a2 a3 a4 a5 a6
  obtain ⟨q0, hq⟩ := zls_mem a2 (he h9 a1)
  exact va_astqN E.1 E.2.1 (zE_K E) (zls_P a2) (zls_D a2) (zhp_S a2 a3) q0 3 hq rfl hin hd (fun H1 L1 P1 D1 S1 => kk _ H1 L1 s9 c9 n9 (hS h9 a1) (zhp_put a2 (he h9 a1) hq rfl P1 S1) S1.2.2 a4 a5 a6)
theorem z_castY (E : zOK X w own cc nL fr lo tb ret nm) {C to : String} {T : u_T} {N ci index a : Nat} {fs : List Value} (hlink : Cond.classLink own index to ∈ lw_all) (hca : Cond.castable C to ∈ lw_tbl) (hc : zcl[ci]? = some (C, T, N)) (he : ∀ h, S h → h a = some (zo ci fs)) (hd : decode cc pc = .ok (.checkcast index, 3)) (kk : Z X w nL Q S k n lv (pc + 3) (.ref a :: st)) : Z X w nL Q S k n lv pc (.ref a :: st) := by
  intro h9 H9 l9 s9 c9 n9 a1 a2 a3 a4 a5 a6
  exact va_castY E.1 E.2.1 E.2.2.2.1 (zE_w E hlink) (zE_N E hca rfl) (zE_recv E a2 hc (he h9 a1)) hd (kk h9 H9 l9 s9 c9 n9 a1 a2 a3 a4 a5 a6)
theorem z_castS (E : zOK X w own cc nL fr lo tb ret nm) {C : String} {T : u_T} {N ci index a : Nat} {fs : List Value} (hlink : Cond.classLink own index C ∈ lw_all) (hc : zcl[ci]? = some (C, T, N)) (he : ∀ h, S h → h a = some (zo ci fs)) (hd : decode cc pc = .ok (.checkcast index, 3)) (kk : Z X w nL Q S k n lv (pc + 3) (.ref a :: st)) : Z X w nL Q S k n lv pc (.ref a :: st) := by
  intro h9 H9 l9 s9 c9 n9 a1 a2 a3 a4 a5 a6
  exact va_castS E.1 E.2.1 E.2.2.2.1 (zE_w E hlink) ((zE_K E).1 ci _ hc).2 (zE_recv E a2 hc (he h9 a1)) hd (kk h9 H9 l9 s9 c9 n9 a1 a2 a3 a4 a5 a6)
theorem z_instY (E : zOK X w own cc nL fr lo tb ret nm) {C to : String} {T : u_T} {N ci index a : Nat} {fs : List Value} (hlink : Cond.classLink own index to ∈ lw_all) (hca : Cond.castable C to ∈ lw_tbl) (hc : zcl[ci]? = some (C, T, N)) (he : ∀ h, S h → h a = some (zo ci fs)) (hd : decode cc pc = .ok (.instanceof index, 3)) (kk : Z X w nL Q S k n lv (pc + 3) (.int 1 :: st)) : Z X w nL Q S k n lv pc (.ref a :: st) := by
  intro h9 H9 l9 s9 c9 n9 a1 a2 a3 a4 a5 a6
  exact va_instY E.1 E.2.1 E.2.2.2.1 (zE_w E hlink) (zE_N E hca rfl) (zE_recv E a2 hc (he h9 a1)) hd (kk h9 H9 l9 s9 c9 n9 a1 a2 a3 a4 a5 a6)
theorem z_instS (E : zOK X w own cc nL fr lo tb ret nm) {C : String} {T : u_T} {N ci index a : Nat} {fs : List Value} (hlink : Cond.classLink own index C ∈ lw_all) (hc : zcl[ci]? = some (C, T, N)) (he : ∀ h, S h → h a = some (zo ci fs)) (hd : decode cc pc = .ok (.instanceof index, 3)) (kk : Z X w nL Q S k n lv (pc + 3) (.int 1 :: st)) : Z X w nL Q S k n lv pc (.ref a :: st) := by
  intro h9 H9 l9 s9 c9 n9 a1 a2 a3 a4 a5 a6
  exact va_instS E.1 E.2.1 E.2.2.2.1 (zE_w E hlink) ((zE_K E).1 ci _ hc).2 (zE_recv E a2 hc (he h9 a1)) hd (kk h9 H9 l9 s9 c9 n9 a1 a2 a3 a4 a5 a6)
/-- a static of the start, read -/
theorem z_gets (E : zOK X w own cc nL fr lo tb ret nm) {C f d ref : String} {v : Value} {index : Nat} (hZ : va_Z C f d v (zA w) (zs X) w.2.2) (hlink : Cond.fieldLink own index ref f d ∈ lw_all) (hsame : ∀ x, (zs X).fieldFound? C f d = some x → (zs X).fieldFound? ref f d = some x) (hd : decode cc pc = .ok (.getstatic index, 3)) (kk : Z X w nL Q S k n lv (pc + 3) (v :: st)) : Z X w nL Q S k n lv pc st := by
  intro h9 H9 l9 s9 c9 n9 a1 a2 a3 a4 a5 a6
  obtain ⟨cf, kf, fi, f, a, cell, h1, h2, h3, h4, h5, h6, h7, h8⟩ := hZ
  exact W.gets E.1 E.2.1 E.2.2.2.1 (zE_w E hlink) (hsame _ h1) h2 h3 h4 (by rw [a2.2.1 a (Nat.not_le.mp h8)]; exact h5) (fun e => by rw [e] at h6; cases h6) h7 rfl hd (kk h9 H9 l9 s9 c9 n9 a1 a2 a3 a4 a5 a6)
/-- a static that holds a reference or null -/
theorem z_getsq (E : zOK X w own cc nL fr lo tb ret nm) {C f d ref : String} {index : Nat} (hZ : va_Zq C f d (zA w) (zs X) w.2.2) (hlink : Cond.fieldLink own index ref f d ∈ lw_all) (hsame : ∀ x, (zs X).fieldFound? C f d = some x → (zs X).fieldFound? ref f d = some x) (hd : decode cc pc = .ok (.getstatic index, 3)) (kk : ∀ r : Option Nat, Z X w nL Q S k n lv (pc + 3) (va_rf r :: st)) : Z X w nL Q S k n lv pc st := by
  rcases hZ with h | ⟨t, h⟩
  · exact z_gets E h hlink hsame hd (kk none)
  · exact z_gets E h hlink hsame hd (kk (some t))
theorem z_objInit (E : zOK X w own cc nL fr lo tb ret nm) {index a : Nat} (h1 : Cond.methodLink own index Lib.objectInit ∈ lw_all) (h2 : Cond.instanceMethod Lib.objectInit ∈ lw_all) (h3 : Cond.code Lib.objectInit ⟨#[0xb1]⟩ 1 none ∈ lw_all) (hd : decode cc pc = .ok (.invokespecial index, 3)) (hfr : 1 ≤ fr) (hrest : (st.map fun v => v.category).sum + 12 ≤ lo) (kk : Z X w nL Q S k n lv (pc + 3) st) : Z X w nL Q S k n lv pc (.ref a :: st) := by
  intro h9 H9 l9 s9 c9 n9 a1 a2 a3 a4 a5 a6
  refine W.objInit E.1 E.2.1 E.2.2.2.1 (zE_w E h1) (zE_w E h2) (zE_w E h3) rfl (by rw [E.2.2.1]; exact a4.1) rfl hd (by rw [zE_f E]; exact hfr) ?_ (kk h9 H9 l9 s9 c9 n9 a1 a2 a3 a4 a5 a6)
  rw [zE_o E]
  show 2 * 0 + _ + 12 ≤ lo
  omega
theorem z_min (E : zOK X w own cc nL fr lo tb ret nm) {index : Nat} {x y : Int32} (h1 : Cond.methodLink own index Lib.Math.min.name ∈ lw_all) (h2 : Cond.static Lib.Math.min.name ∈ lw_all) (h3 : Cond.initialized "java/lang/Math" ∈ lw_all) (h4 : Cond.code Lib.Math.min.name Lib.Math.min.code 2 (some .int) ∈ lw_all) (hfr : 1 ≤ fr) (hrest : (st.map fun v => v.category).sum + 13 ≤ lo) (hd : decode cc pc = .ok (.invokestatic index, 3)) (kk : Z X w nL Q S k n lv (pc + 3) (.int (if y < x then y else x) :: st)) : Z X w nL Q S k n lv pc (.int y :: .int x :: st) := by
  intro h9 H9 l9 s9 c9 n9 a1 a2 a3 a4 a5 a6
  exact va_mmin E.1 E.2.1 (by rw [E.2.2.1]; exact a4.1.symm) E.2.2.2.1 (zE_w E h1) (zE_w E h2) (zE_w E h3) (zE_w E h4) (by rw [zE_f E]; exact hfr) (by rw [zE_o E]; exact hrest) (by omega) (by omega) hd (kk h9 H9 l9 s9 c9 n9 a1 a2 a3 a4 a5 a6)
/-! ends -/
section ZEnds
variable {P : Option Value → zH → Prop} {PX : Nat → zH → Prop}
theorem z_iret (E : zOK X w own cc nL fr lo tb (some .int) nm) {v : Int32} (hd : decode cc pc = .ok (.ireturn, 1)) (hq : ∀ h, S h → P (some (.int v)) h) : Z X w nL (zQ X w P PX) S k n lv pc [.int v] := by
  intro h9 H9 l9 s9 c9 n9 a1 a2 a3 a4 a5 a6
  refine vx_ret (W.widen (Nat.le_trans (Nat.le_add_right _ _) a5) (Nat.le_trans (Nat.le_add_right _ _) a6) ?_)
  exact W.iret E.1 E.2.1 (zE_r E) (fun t ht hW => ⟨_, h9, rfl, hq h9 a1, by rw [ht]; exact a2⟩) a3 hd (zE_l E)
theorem z_zret (E : zOK X w own cc nL fr lo tb ret nm) {ty : FieldType} {v : Int32} (hr : ret = some ty) (hn : narrow ty (.int v) = .int v) (hd : decode cc pc = .ok (.ireturn, 1)) (hq : ∀ h, S h → P (some (.int v)) h) : Z X w nL (zQ X w P PX) S k n lv pc [.int v] := by
  intro h9 H9 l9 s9 c9 n9 a1 a2 a3 a4 a5 a6
  refine vx_ret (W.widen (Nat.le_trans (Nat.le_add_right _ _) a5) (Nat.le_trans (Nat.le_add_right _ _) a6) ?_)
  exact W.zret E.1 E.2.1 ((zE_r E).trans hr) hn (fun t ht hW => ⟨_, h9, rfl, hq h9 a1, by rw [ht]; exact a2⟩) a3 hd (zE_l E)
theorem z_vret (E : zOK X w own cc nL fr lo tb none nm) (hd : decode cc pc = .ok (.return_, 1)) (hq : ∀ h, S h → P none h) : Z X w nL (zQ X w P PX) S k n lv pc [] := by
  intro h9 H9 l9 s9 c9 n9 a1 a2 a3 a4 a5 a6
  refine vx_ret (W.widen (Nat.le_trans (Nat.le_add_right _ _) a5) (Nat.le_trans (Nat.le_add_right _ _) a6) ?_)
  exact W.vret E.1 E.2.1 (zE_r E) (fun t ht hW => ⟨_, h9, rfl, hq h9 a1, by rw [ht]; exact a2⟩) a3 hd (zE_l E)
theorem z_aret (E : zOK X w own cc nL fr lo tb ret nm) {rt : FieldType} {v : Value} (hr : ret = some rt) (hrt : (∃ n, rt = .object n) ∨ ∃ t, rt = .array t) (hv : v = .null ∨ ∃ a, v = .ref a) (hd : decode cc pc = .ok (.areturn, 1)) (hq : ∀ h, S h → P (some v) h) : Z X w nL (zQ X w P PX) S k n lv pc [v] := by
  intro h9 H9 l9 s9 c9 n9 a1 a2 a3 a4 a5 a6
  refine vx_ret (W.widen (Nat.le_trans (Nat.le_add_right _ _) a5) (Nat.le_trans (Nat.le_add_right _ _) a6) ?_)
  exact W.aret E.1 E.2.1 ((zE_r E).trans hr) hrt hv (fun t ht hW => ⟨_, h9, rfl, hq h9 a1, by rw [ht]; exact a2⟩) a3 hd (zE_l E)
theorem z_fret (E : zOK X w own cc nL fr lo tb (some .float) nm) {v : UInt32} (hd : decode cc pc = .ok (.freturn, 1)) (hq : ∀ h, S h → P (some (.float v)) h) : Z X w nL (zQ X w P PX) S k n lv pc [.float v] := by
  intro h9 H9 l9 s9 c9 n9 a1 a2 a3 a4 a5 a6
  refine vx_ret (W.widen (Nat.le_trans (Nat.le_add_right _ _) a5) (Nat.le_trans (Nat.le_add_right _ _) a6) ?_)
  exact W.fret E.1 E.2.1 (zE_r E) (fun t ht hW => ⟨_, h9, rfl, hq h9 a1, by rw [ht]; exact a2⟩) a3 hd (zE_l E)
theorem z_dret (E : zOK X w own cc nL fr lo tb (some .double) nm) {v : UInt64} (hd : decode cc pc = .ok (.dreturn, 1)) (hq : ∀ h, S h → P (some (.double v)) h) : Z X w nL (zQ X w P PX) S k n lv pc [.double v] := by
  intro h9 H9 l9 s9 c9 n9 a1 a2 a3 a4 a5 a6
  refine vx_ret (W.widen (Nat.le_trans (Nat.le_add_right _ _) a5) (Nat.le_trans (Nat.le_add_right _ _) a6) ?_)
  exact W.dret E.1 E.2.1 (zE_r E) (fun t ht hW => ⟨_, h9, rfl, hq h9 a1, by rw [ht]; exact a2⟩) a3 hd (zE_l E)
theorem z_athrow (E : zOK X w own cc nL fr lo tb ret nm) {q : Nat} (hd : decode cc pc = .ok (.athrow, 1)) (kk : ZX X w nL Q S k n lv pc q) : Z X w nL Q S k n lv pc (.ref q :: st) :=
  fun h9 H9 l9 s9 c9 n9 a1 a2 a3 a4 a5 a6 => vx_athrow E.1 E.2.1 hd (kk h9 H9 l9 s9 c9 n9 st a1 a2 a3 a4 a5 a6)
/-- thrown out of the method: no handler is passed but such as catch other classes -/
theorem zx_out (E : zOK X w own cc nL fr lo tb ret nm) {q ci N : Nat} {C : String} {T : u_T} {fs : List Value} (hc : zcl[ci]? = some (C, T, N)) (he : ∀ h, S h → h q = some (zo ci fs)) (hout : ∀ x ∈ tableOf tb, covers x pc = false) (hq : ∀ h, S h → PX q h) : ZX X w nL (zQ X w P PX) S k n lv pc q := by
  intro h9 H9 l9 s9 c9 n9 st a1 a2 a3 a4 a5 a6
  obtain ⟨ce, q1, q2, q3⟩ := zE_cell E a2 hc (he h9 a1)
  exact vx_out (fun x hx => hout x (by rw [← zE_t E]; exact hx)) (zE_l E) q1 q2 q3 (fun t ht hW => ⟨h9, hq h9 a1, ⟨_, he h9 a1⟩, by rw [ht]; exact a2⟩) a3 (Nat.le_trans (Nat.le_add_right _ _) a5) (Nat.le_trans (Nat.le_add_right _ _) a6)
/-- caught: by the x-th row of the table, the rows ahead of it not covering, or of other classes -/
theorem zx_catch (E : zOK X w own cc nL fr lo tb ret nm) {q ci N : Nat} {C to : String} {T : u_T} {fs : List Value} (hc : zcl[ci]? = some (C, T, N)) (he : ∀ h, S h → h q = some (zo ci fs)) (pre : zTb) (x : Nat × Nat × Nat × Nat) (suf : zTb) (htb : tb = pre ++ x :: suf) (hpass : ∀ z ∈ tableOf pre, covers z pc = false ∨ (z.catchType ≠ 0 ∧ ∃ nm : String, Cond.classLink own z.catchType nm ∈ lw_all ∧ (C, nm) ∈ zNcs)) (hx : covers (⟨x.1, x.2.1, x.2.2.1, x.2.2.2⟩ : ExceptionTableEntry) pc = true) (h0 : x.2.2.2 ≠ 0) (hlink : Cond.classLink own x.2.2.2 to ∈ lw_all) (hca : Cond.castable C to ∈ lw_tbl) (kk : Z X w nL Q S k n lv x.2.2.1 [.ref q]) : ZX X w nL Q S k n lv pc q := by
  intro h9 H9 l9 s9 c9 n9 st a1 a2 a3 a4 a5 a6
  obtain ⟨ce, q1, q2, q3⟩ := zE_cell E a2 hc (he h9 a1)
  refine vx_catch E.2.2.2.1 (tableOf pre) (⟨x.1, x.2.1, x.2.2.1, x.2.2.2⟩ : ExceptionTableEntry) (tableOf suf) ?_ (fun z hz => ?_) hx h0 (zE_w E hlink) (va_Nw.use rfl (zE_N E hca rfl)) q1 q2 q3 (kk h9 H9 l9 s9 c9 n9 a1 a2 a3 a4 a5 a6)
  · rw [zE_t E, htb]
    simp [tableOf]
  · rcases hpass z hz with h | ⟨h1, nm, h2, h3⟩
    · exact Or.inl h
    · exact Or.inr ⟨h1, nm, zE_w E h2, (zE_S E).2.2.2.1 (C, nm) h3⟩
/-- caught by its own class -/
theorem zx_catchS (E : zOK X w own cc nL fr lo tb ret nm) {q ci N : Nat} {C : String} {T : u_T} {fs : List Value} (hc : zcl[ci]? = some (C, T, N)) (he : ∀ h, S h → h q = some (zo ci fs)) (pre : zTb) (x : Nat × Nat × Nat × Nat) (suf : zTb) (htb : tb = pre ++ x :: suf) (hpass : ∀ z ∈ tableOf pre, covers z pc = false ∨ (z.catchType ≠ 0 ∧ ∃ nm : String, Cond.classLink own z.catchType nm ∈ lw_all ∧ (C, nm) ∈ zNcs)) (hx : covers (⟨x.1, x.2.1, x.2.2.1, x.2.2.2⟩ : ExceptionTableEntry) pc = true) (h0 : x.2.2.2 ≠ 0) (hlink : Cond.classLink own x.2.2.2 C ∈ lw_all) (hca : Cond.castable C C ∈ lw_tbl) (kk : Z X w nL Q S k n lv x.2.2.1 [.ref q]) : ZX X w nL Q S k n lv pc q := zx_catch E hc he pre x suf htb hpass hx h0 hlink hca kk
end ZEnds
/-! calls -/
/-- what is told once of a method that is called through an object, as a static one, or as a constructor -/
def zCV (y : MethodName) (C : String) (b : ByteArray) (L : Nat) (r : Option FieldType) (nA : Nat) : Prop := (Cond.instanceMethod y ∈ lw_all ∧ Cond.selects C y y ∈ lw_all ∧ Cond.initialized C ∈ lw_all ∧ Cond.code y b L r ∈ lw_all) ∧ (y.cls = C ∧ y.cls ≠ "java/lang/invoke/MethodHandle" ∧ y.cls ≠ "java/lang/invoke/VarHandle" ∧ (parseMethodDescriptor y.desc).map (fun d => d.parameters.length) = some nA)
def zCW (y : MethodName) (C : String) (b : ByteArray) (L : Nat) (r : Option FieldType) (hh : zTb) (nA : Nat) : Prop := (Cond.instanceMethod y ∈ lw_all ∧ Cond.selects C y y ∈ lw_all ∧ Cond.initialized C ∈ lw_all ∧ Cond.codeWith y b L r hh ∈ lw_all) ∧ (y.cls = C ∧ y.cls ≠ "java/lang/invoke/MethodHandle" ∧ y.cls ≠ "java/lang/invoke/VarHandle" ∧ (parseMethodDescriptor y.desc).map (fun d => d.parameters.length) = some nA)
def zCS (y : MethodName) (b : ByteArray) (L : Nat) (r : Option FieldType) (nA : Nat) : Prop := (Cond.static y ∈ lw_all ∧ Cond.initialized y.cls ∈ lw_all ∧ Cond.code y b L r ∈ lw_all) ∧ (y.cls ≠ "java/lang/invoke/MethodHandle" ∧ y.cls ≠ "java/lang/invoke/VarHandle" ∧ (parseMethodDescriptor y.desc).map (fun d => d.parameters.length) = some nA)
def zCI (y : MethodName) (b : ByteArray) (L : Nat) (nA : Nat) : Prop := (Cond.instanceMethod y ∈ lw_all ∧ Cond.initialized y.cls ∈ lw_all ∧ Cond.code y b L none ∈ lw_all) ∧ y.name = "<init>" ∧ (y.cls ≠ "java/lang/invoke/MethodHandle" ∧ y.cls ≠ "java/lang/invoke/VarHandle" ∧ (parseMethodDescriptor y.desc).map (fun d => d.parameters.length) = some nA)
def zCF (x y : MethodName) (C : String) (b : ByteArray) (L : Nat) (r : Option FieldType) (nA : Nat) : Prop := (Cond.selects C x y ∈ lw_all ∧ Cond.instanceMethod y ∈ lw_all ∧ Cond.initialized y.cls ∈ lw_all ∧ Cond.code y b L r ∈ lw_all) ∧ (C, x, y) ∈ zFs ∧ (x.cls ≠ "java/lang/invoke/MethodHandle" ∧ x.cls ≠ "java/lang/invoke/VarHandle" ∧ (parseMethodDescriptor x.desc).map (fun d => d.parameters.length) = some nA)
/-- an inherited method -/
def zCU (x y : MethodName) (C owner : String) (b : ByteArray) (L : Nat) (r : Option FieldType) (nA : Nat) : Prop := (Cond.sameMethod x.cls owner x.name x.desc ∈ lw_all ∧ Cond.selects C x y ∈ lw_all ∧ Cond.instanceMethod y ∈ lw_all ∧ Cond.initialized y.cls ∈ lw_all ∧ Cond.code y b L r ∈ lw_all) ∧ y = ⟨owner, x.name, x.desc⟩ ∧ (owner ≠ "java/lang/invoke/MethodHandle" ∧ owner ≠ "java/lang/invoke/VarHandle" ∧ (parseMethodDescriptor x.desc).map (fun d => d.parameters.length) = some nA)
theorem zRun (g : JFrame) {H9 : Heap} {l9 : List Loc} {s9 : Array Slot} {c9 n9 mc ms : Nat} {y : MethodName} {a : Array Value} {P : Option Value → zH → Prop} {PX : Nat → zH → Prop} (hg : g = F0 (zm X) pc s9 st) (hr : vx_Run (zp X) (zl X) (ze X) (zR X) (zs X) (zm X) (za X) (zb X) (zme X) (zc X) H9 l9 c9 n9 mc ms g rest (zQc w P a) (zXC w PX) (zA w)) (a3 : ∀ q ∈ l9, w.2.2.size ≤ q.base) (a4 : lv_has s9 nL lv) (a5 : c9 + k ≤ (zR X).cells) (a6 : n9 + n ≤ (zR X).slots) (hk : mc + k' ≤ k) (hn : ms + n' ≤ n)
    (kx : ∀ q h, PX q h → (∃ e, h q = some e) → ZX X w nL Q (fun g => g = h) k' n' lv pc q) (kk : ∀ v h, P v h → Z X w nL Q (fun g => g = h) k' n' lv (pc + 3) (v.toList ++ rest)) : zWX X H9 l9 c9 n9 Q g := by
  subst hg
  intro T hT Xs
  rcases hr T hT Xs with ⟨v, st₀, t, T', L, e0, X', hL, e1, e2, ⟨v', h', ev, hP, hp'⟩, go⟩ | ⟨q, st₀, t, T', L, E', ce, e0, X', hL, e1, e2, ⟨h', hPX, he', hp'⟩, hce, hcv, hcl, st9⟩
  · cases ev
    have hl : ∀ q ∈ l9 ++ L, w.2.2.size ≤ q.base := fun q hq => (List.mem_append.mp hq).elim (a3 q) (hL q)
    obtain ⟨t2, b1, b2⟩ := kk v h' hP h' T'.heap (l9 ++ L) s9 (c9 + mc) (n9 + ms) rfl (by rw [e1]; exact hp') hl a4 (by omega) (by omega) T' rfl X'
    exact ⟨t2, go t2 b1, b2⟩
  · have hl : ∀ q ∈ l9 ++ L, w.2.2.size ≤ q.base := fun q hq => (List.mem_append.mp hq).elim (a3 q) (hL q)
    obtain ⟨t2, b1, b2⟩ := kx q h' hPX he' h' T'.heap (l9 ++ L) s9 (c9 + mc) (n9 + ms) rest rfl (by rw [e1]; exact hp') hl a4 (by omega) (by omega) T' rfl X'
    exact ⟨t2, st9.trans b1, b2⟩
theorem zRun5 (g : JFrame) {H9 : Heap} {l9 : List Loc} {s9 : Array Slot} {c9 n9 mc ms : Nat} {a : Array Value} {P : Option Value → zH → Prop} {PX : Nat → zH → Prop} (hg : g = F0 (zm X) pc s9 st) (hr : vx_Run5 (zp X) (zl X) (ze X) (zR X) (zs X) (zm X) (za X) (zb X) (zme X) (zc X) H9 l9 c9 n9 mc ms g rest (zQc w P a) (zXC w PX) (zA w)) (a3 : ∀ q ∈ l9, w.2.2.size ≤ q.base) (a4 : lv_has s9 nL lv) (a5 : c9 + k ≤ (zR X).cells) (a6 : n9 + n ≤ (zR X).slots) (hk : mc + k' ≤ k) (hn : ms + n' ≤ n)
    (kx : ∀ q h, PX q h → (∃ e, h q = some e) → ZX X w nL Q (fun g => g = h) k' n' lv pc q) (kk : ∀ v h, P v h → Z X w nL Q (fun g => g = h) k' n' lv (pc + 5) (v.toList ++ rest)) : zWX X H9 l9 c9 n9 Q g := by
  subst hg
  intro T hT Xs
  rcases hr T hT Xs with ⟨v, st₀, t, T', L, e0, X', hL, e1, e2, ⟨v', h', ev, hP, hp'⟩, go⟩ | ⟨q, st₀, t, T', L, E', ce, e0, X', hL, e1, e2, ⟨h', hPX, he', hp'⟩, hce, hcv, hcl, st9⟩
  · cases ev
    have hl : ∀ q ∈ l9 ++ L, w.2.2.size ≤ q.base := fun q hq => (List.mem_append.mp hq).elim (a3 q) (hL q)
    obtain ⟨t2, b1, b2⟩ := kk v h' hP h' T'.heap (l9 ++ L) s9 (c9 + mc) (n9 + ms) rfl (by rw [e1]; exact hp') hl a4 (by omega) (by omega) T' rfl X'
    exact ⟨t2, go t2 b1, b2⟩
  · have hl : ∀ q ∈ l9 ++ L, w.2.2.size ≤ q.base := fun q hq => (List.mem_append.mp hq).elim (a3 q) (hL q)
    obtain ⟨t2, b1, b2⟩ := kx q h' hPX he' h' T'.heap (l9 ++ L) s9 (c9 + mc) (n9 + ms) rest rfl (by rw [e1]; exact hp') hl a4 (by omega) (by omega) T' rfl X'
    exact ⟨t2, st9.trans b1, b2⟩
variable {y x : MethodName} {C owner host : String} {b : ByteArray} {L nA fr' lo' mc ms ro index ci N : Nat} {r : Option FieldType} {hh : zTb} {T : u_T} {fs : List Value} {As : List Value} {P : Option Value → zH → Prop} {PX : Nat → zH → Prop}
theorem zroom {rest : List Value} {m : MethodId} {pc : Nat} {ls : Array Slot} {st : List Value} (h : (rest.map fun v => v.category).sum ≤ 8) : 2 * (F0 m pc ls st).monitorRoom + (rest.map fun v => v.category).sum ≤ 8 := lv_room h
theorem z_callV (E : zOK X w own cc nL fr lo tb ret nm) (hC : zCV y C b L r nA) (hM : ZM (zl X) w y (ws_ y b L r) fr' lo' mc ms (.ref ro :: As) S P PX) (hl : Cond.methodLink own index y ∈ lw_all) (hc : zcl[ci]? = some (C, T, N)) (he : ∀ h, S h → h ro = some (zo ci fs)) (hst : st = As.reverse ++ .ref ro :: rest) (hn9 : As.length = nA) (hfr : fr' + 1 ≤ fr) (hlo : 8 + (L + 11) + lo' ≤ lo) (hrest : (rest.map fun v => v.category).sum ≤ 8) (hd : decode cc pc = .ok (.invokevirtual index, 3)) (hk : mc + k' ≤ k) (hn : ms + n' ≤ n)
    (kx : ∀ q h, PX q h → (∃ e, h q = some e) → ZX X w nL Q (fun g => g = h) k' n' lv pc q) (kk : ∀ v h, P v h → Z X w nL Q (fun g => g = h) k' n' lv (pc + 3) (v.toList ++ rest)) : Z X w nL Q S k n lv pc st := by
  intro h9 H9 l9 s9 c9 n9 a1 a2 a3 a4 a5 a6
  obtain ⟨⟨h1, h2, h3, h4⟩, h5⟩ := hC
  exact zRun (y := y) _ rfl (vx_runV ⟨E.1, E.2.1, E.2.2.1, E.2.2.2.1, E.2.2.2.2.1⟩ hM (cwV nA E.2.2.2.2.1 (lw_V hl h1 h2 h3 h4) rfl rfl rfl h5 ⟨by rw [zE_f E]; exact hfr, by rw [zE_o E]; exact hlo⟩) ⟨zPc_blind, zE_recv E a2 hc (he h9 a1), zPc_pre E.2.2.2.2.2.1 a1 a2⟩ rfl hn9 a4.1 hst (zroom hrest) hd ⟨by omega, by omega⟩) a3 a4 a5 a6 hk hn kx kk
theorem z_callW (E : zOK X w own cc nL fr lo tb ret nm) (hC : zCW y C b L r hh nA) (hM : ZM (zl X) w y (wsW_ y b L r hh) fr' lo' mc ms (.ref ro :: As) S P PX) (hl : Cond.methodLink own index y ∈ lw_all) (hc : zcl[ci]? = some (C, T, N)) (he : ∀ h, S h → h ro = some (zo ci fs)) (hst : st = As.reverse ++ .ref ro :: rest) (hn9 : As.length = nA) (hfr : fr' + 1 ≤ fr) (hlo : 8 + (L + 11) + lo' ≤ lo) (hrest : (rest.map fun v => v.category).sum ≤ 8) (hd : decode cc pc = .ok (.invokevirtual index, 3)) (hk : mc + k' ≤ k) (hn : ms + n' ≤ n)
    (kx : ∀ q h, PX q h → (∃ e, h q = some e) → ZX X w nL Q (fun g => g = h) k' n' lv pc q) (kk : ∀ v h, P v h → Z X w nL Q (fun g => g = h) k' n' lv (pc + 3) (v.toList ++ rest)) : Z X w nL Q S k n lv pc st := by
  intro h9 H9 l9 s9 c9 n9 a1 a2 a3 a4 a5 a6
  obtain ⟨⟨h1, h2, h3, h4⟩, h5⟩ := hC
  exact zRun (y := y) _ rfl (vx_runVX ⟨E.1, E.2.1, E.2.2.1, E.2.2.2.1, E.2.2.2.2.1⟩ hM (vx_cwVW nA E.2.2.2.2.1 (lw_VW hl h1 h2 h3 h4) rfl rfl rfl h5 ⟨by rw [zE_f E]; exact hfr, by rw [zE_o E]; exact hlo⟩) ⟨zPc_blind, zE_recv E a2 hc (he h9 a1), zPc_pre E.2.2.2.2.2.1 a1 a2⟩ rfl hn9 a4.1 hst (zroom hrest) hd ⟨by omega, by omega⟩) a3 a4 a5 a6 hk hn kx kk
theorem z_callS (E : zOK X w own cc nL fr lo tb ret nm) (hC : zCS y b L r nA) (hM : ZM (zl X) w y (ws_ y b L r) fr' lo' mc ms As S P PX) (hl : Cond.methodLink own index y ∈ lw_all) (hst : st = As.reverse ++ rest) (hn9 : As.length = nA) (hfr : fr' + 1 ≤ fr) (hlo : 8 + (L + 11) + lo' ≤ lo) (hrest : (rest.map fun v => v.category).sum ≤ 8) (hd : decode cc pc = .ok (.invokestatic index, 3)) (hk : mc + k' ≤ k) (hn : ms + n' ≤ n)
    (kx : ∀ q h, PX q h → (∃ e, h q = some e) → ZX X w nL Q (fun g => g = h) k' n' lv pc q) (kk : ∀ v h, P v h → Z X w nL Q (fun g => g = h) k' n' lv (pc + 3) (v.toList ++ rest)) : Z X w nL Q S k n lv pc st := by
  intro h9 H9 l9 s9 c9 n9 a1 a2 a3 a4 a5 a6
  obtain ⟨⟨h1, h2, h3⟩, h5⟩ := hC
  exact zRun (y := y) _ rfl (vx_runS ⟨E.1, E.2.1, E.2.2.1, E.2.2.2.1, E.2.2.2.2.1⟩ hM (va_cwS nA E.2.2.2.2.1 (lw_S hl h1 h2 h3) rfl rfl rfl h5 ⟨by rw [zE_f E]; exact hfr, by rw [zE_o E]; exact hlo⟩) ⟨zPc_blind, zPc_pre E.2.2.2.2.2.1 a1 a2⟩ rfl hn9 a4.1 hst (zroom hrest) hd ⟨by omega, by omega⟩) a3 a4 a5 a6 hk hn kx kk
theorem z_callI (E : zOK X w own cc nL fr lo tb ret nm) (hC : zCI y b L nA) (hM : ZM (zl X) w y (ws_ y b L none) fr' lo' mc ms (.ref ro :: As) S P PX) (hl : Cond.methodLink own index y ∈ lw_all) (hst : st = As.reverse ++ .ref ro :: rest) (hn9 : As.length = nA) (hfr : fr' + 1 ≤ fr) (hlo : 8 + (L + 11) + lo' ≤ lo) (hrest : (rest.map fun v => v.category).sum ≤ 8) (hd : decode cc pc = .ok (.invokespecial index, 3)) (hk : mc + k' ≤ k) (hn : ms + n' ≤ n)
    (kx : ∀ q h, PX q h → (∃ e, h q = some e) → ZX X w nL Q (fun g => g = h) k' n' lv pc q) (kk : ∀ v h, P v h → Z X w nL Q (fun g => g = h) k' n' lv (pc + 3) (v.toList ++ rest)) : Z X w nL Q S k n lv pc st := by
  intro h9 H9 l9 s9 c9 n9 a1 a2 a3 a4 a5 a6
  obtain ⟨⟨h1, h2, h3⟩, h5, h6⟩ := hC
  have hcb := callB_of (s := zs X) (R := zR X) (own := own) (index := index) (y := y) (bytes := b) (maxL := L) (ret := none) (ws := ws_ y b L none) (rm := ({ frames := fr', cells := mc, slots := ms, locals := lo' } : Room)) (mc := mc) (ms := ms) nA E.2.2.2.2.1 (lw_meth h3) rfl rfl rfl (zE_w E h2) (zE_w E hl) h6 ⟨by rw [zE_f E]; exact hfr, by rw [zE_o E]; exact hlo⟩
  exact zRun (y := y) _ rfl (vx_runI ⟨E.1, E.2.1, E.2.2.1, E.2.2.2.1, E.2.2.2.2.1⟩ hM ⟨hcb, h5, zE_w E h1⟩ ⟨zPc_blind, zPc_pre E.2.2.2.2.2.1 a1 a2⟩ rfl hn9 a4.1 hst (zroom hrest) hd ⟨by omega, by omega⟩) a3 a4 a5 a6 hk hn kx kk
theorem z_callIN (E : zOK X w own cc nL fr lo tb ret nm) (hC : zCI y b L nA) (hM : ZM (zl X) w y (ws_ y b L none) fr' lo' mc ms (.ref ro :: As) S P PX) (hl : Cond.methodLinkNest own index y host ∈ lw_tbl) (hst : st = As.reverse ++ .ref ro :: rest) (hn9 : As.length = nA) (hfr : fr' + 1 ≤ fr) (hlo : 8 + (L + 11) + lo' ≤ lo) (hrest : (rest.map fun v => v.category).sum ≤ 8) (hd : decode cc pc = .ok (.invokespecial index, 3)) (hk : mc + k' ≤ k) (hn : ms + n' ≤ n)
    (kx : ∀ q h, PX q h → (∃ e, h q = some e) → ZX X w nL Q (fun g => g = h) k' n' lv pc q) (kk : ∀ v h, P v h → Z X w nL Q (fun g => g = h) k' n' lv (pc + 3) (v.toList ++ rest)) : Z X w nL Q S k n lv pc st := by
  intro h9 H9 l9 s9 c9 n9 a1 a2 a3 a4 a5 a6
  obtain ⟨⟨h1, h2, h3⟩, h5, h6⟩ := hC
  exact zRun (y := y) _ rfl (vx_runIN ⟨E.1, E.2.1, E.2.2.1, E.2.2.2.1, E.2.2.2.2.1⟩ hM ⟨va_cnB nA E.2.2.2.2.1 (lw_meth h3) rfl rfl rfl (zE_N E hl rfl) (zE_w E h2) h6 ⟨by rw [zE_f E]; exact hfr, by rw [zE_o E]; exact hlo⟩, h5, zE_w E h1⟩ ⟨zPc_blind, zPc_pre E.2.2.2.2.2.1 a1 a2⟩ rfl hn9 a4.1 hst (zroom hrest) hd ⟨by omega, by omega⟩) a3 a4 a5 a6 hk hn kx kk
theorem z_callVN (E : zOK X w own cc nL fr lo tb ret nm) (hC : zCV y C b L r nA) (hM : ZM (zl X) w y (ws_ y b L r) fr' lo' mc ms (.ref ro :: As) S P PX) (hl : Cond.methodLinkNest own index y host ∈ lw_tbl) (hc : zcl[ci]? = some (C, T, N)) (he : ∀ h, S h → h ro = some (zo ci fs)) (hst : st = As.reverse ++ .ref ro :: rest) (hn9 : As.length = nA) (hfr : fr' + 1 ≤ fr) (hlo : 8 + (L + 11) + lo' ≤ lo) (hrest : (rest.map fun v => v.category).sum ≤ 8) (hd : decode cc pc = .ok (.invokevirtual index, 3)) (hk : mc + k' ≤ k) (hn : ms + n' ≤ n)
    (kx : ∀ q h, PX q h → (∃ e, h q = some e) → ZX X w nL Q (fun g => g = h) k' n' lv pc q) (kk : ∀ v h, P v h → Z X w nL Q (fun g => g = h) k' n' lv (pc + 3) (v.toList ++ rest)) : Z X w nL Q S k n lv pc st := by
  intro h9 H9 l9 s9 c9 n9 a1 a2 a3 a4 a5 a6
  obtain ⟨⟨h1, h2, h3, h4⟩, h5, h6⟩ := hC
  subst h5
  exact zRun (y := y) _ rfl (vx_runVN ⟨E.1, E.2.1, E.2.2.1, E.2.2.2.1, E.2.2.2.2.1⟩ hM ⟨va_cnB nA E.2.2.2.2.1 (lw_meth h4) rfl rfl rfl (zE_N E hl rfl) (zE_w E h3) h6 ⟨by rw [zE_f E]; exact hfr, by rw [zE_o E]; exact hlo⟩, zE_w E h1, zE_w E h2⟩ ⟨zPc_blind, zE_recv E a2 hc (he h9 a1), zPc_pre E.2.2.2.2.2.1 a1 a2⟩ rfl hn9 a4.1 hst (zroom hrest) hd ⟨by omega, by omega⟩) a3 a4 a5 a6 hk hn kx kk
theorem z_callSN (E : zOK X w own cc nL fr lo tb ret nm) (hC : zCS y b L r nA) (hM : ZM (zl X) w y (ws_ y b L r) fr' lo' mc ms As S P PX) (hl : Cond.methodLinkNest own index y host ∈ lw_tbl) (hst : st = As.reverse ++ rest) (hn9 : As.length = nA) (hfr : fr' + 1 ≤ fr) (hlo : 8 + (L + 11) + lo' ≤ lo) (hrest : (rest.map fun v => v.category).sum ≤ 8) (hd : decode cc pc = .ok (.invokestatic index, 3)) (hk : mc + k' ≤ k) (hn : ms + n' ≤ n)
    (kx : ∀ q h, PX q h → (∃ e, h q = some e) → ZX X w nL Q (fun g => g = h) k' n' lv pc q) (kk : ∀ v h, P v h → Z X w nL Q (fun g => g = h) k' n' lv (pc + 3) (v.toList ++ rest)) : Z X w nL Q S k n lv pc st := by
  intro h9 H9 l9 s9 c9 n9 a1 a2 a3 a4 a5 a6
  obtain ⟨⟨h1, h2, h3⟩, h6⟩ := hC
  exact zRun (y := y) _ rfl (vx_runSN ⟨E.1, E.2.1, E.2.2.1, E.2.2.2.1, E.2.2.2.2.1⟩ hM ⟨va_cnB nA E.2.2.2.2.1 (lw_meth h3) rfl rfl rfl (zE_N E hl rfl) (zE_w E h2) h6 ⟨by rw [zE_f E]; exact hfr, by rw [zE_o E]; exact hlo⟩, zE_w E h1, trivial⟩ ⟨zPc_blind, zPc_pre E.2.2.2.2.2.1 a1 a2⟩ rfl hn9 a4.1 hst (zroom hrest) hd ⟨by omega, by omega⟩) a3 a4 a5 a6 hk hn kx kk
theorem z_callU (E : zOK X w own cc nL fr lo tb ret nm) (hC : zCU x y C owner b L r nA) (hM : ZM (zl X) w y (ws_ y b L r) fr' lo' mc ms (.ref ro :: As) S P PX) (hl : Cond.methodLink own index x ∈ lw_all) (hc : zcl[ci]? = some (C, T, N)) (he : ∀ h, S h → h ro = some (zo ci fs)) (hst : st = As.reverse ++ .ref ro :: rest) (hn9 : As.length = nA) (hfr : fr' + 1 ≤ fr) (hlo : 8 + (L + 11) + lo' ≤ lo) (hrest : (rest.map fun v => v.category).sum ≤ 8) (hd : decode cc pc = .ok (.invokevirtual index, 3)) (hk : mc + k' ≤ k) (hn : ms + n' ≤ n)
    (kx : ∀ q h, PX q h → (∃ e, h q = some e) → ZX X w nL Q (fun g => g = h) k' n' lv pc q) (kk : ∀ v h, P v h → Z X w nL Q (fun g => g = h) k' n' lv (pc + 3) (v.toList ++ rest)) : Z X w nL Q S k n lv pc st := by
  intro h9 H9 l9 s9 c9 n9 a1 a2 a3 a4 a5 a6
  obtain ⟨⟨h1, h2, h3, h4, h5⟩, h6, h7⟩ := hC
  have hG : GoodIn lw_all (va_wsU own index C owner x y (ws_ y b L r)) := by
    refine lw_app ?_ (lw_meth h5)
    intro w hw
    simp only [List.mem_cons, List.not_mem_nil, or_false] at hw
    rcases hw with e | e | e | e | e <;> rw [e] <;> assumption
  exact zRun (y := y) _ rfl (vx_runU ⟨E.1, E.2.1, E.2.2.1, E.2.2.2.1, E.2.2.2.2.1⟩ hM (va_cwU nA E.2.2.2.2.1 hG rfl rfl rfl h6 h7 ⟨by rw [zE_f E]; exact hfr, by rw [zE_o E]; exact hlo⟩) ⟨zPc_blind, zE_recv E a2 hc (he h9 a1), zPc_pre E.2.2.2.2.2.1 a1 a2⟩ rfl hn9 a4.1 hst (zroom hrest) hd ⟨by omega, by omega⟩) a3 a4 a5 a6 hk hn kx kk
theorem z_callF {count : Nat} (E : zOK X w own cc nL fr lo tb ret nm) (hC : zCF x y C b L r nA) (hM : ZM (zl X) w y (ws_ y b L r) fr' lo' mc ms (.ref ro :: As) S P PX) (hl : Cond.methodLink own index x ∈ lw_all) (hc : zcl[ci]? = some (C, T, N)) (he : ∀ h, S h → h ro = some (zo ci fs)) (hst : st = As.reverse ++ .ref ro :: rest) (hn9 : As.length = nA) (hfr : fr' + 1 ≤ fr) (hlo : 8 + (L + 11) + lo' ≤ lo) (hrest : (rest.map fun v => v.category).sum ≤ 8) (hd : decode cc pc = .ok (.invokeinterface index count, 5)) (hk : mc + k' ≤ k) (hn : ms + n' ≤ n)
    (kx : ∀ q h, PX q h → (∃ e, h q = some e) → ZX X w nL Q (fun g => g = h) k' n' lv pc q) (kk : ∀ v h, P v h → Z X w nL Q (fun g => g = h) k' n' lv (pc + 5) (v.toList ++ rest)) : Z X w nL Q S k n lv pc st := by
  intro h9 H9 l9 s9 c9 n9 a1 a2 a3 a4 a5 a6
  obtain ⟨⟨h1, h2, h3, h4⟩, h5, h6⟩ := hC
  have hG : GoodIn lw_all (va_wsF own index C x y (ws_ y b L r)) := by
    refine lw_app ?_ (lw_meth h4)
    intro w hw
    simp only [List.mem_cons, List.not_mem_nil, or_false] at hw
    rcases hw with e | e | e | e <;> rw [e] <;> assumption
  exact zRun5 _ rfl (vx_runF ((zE_K E).1 ci _ hc).2 ⟨E.1, E.2.1, E.2.2.1, E.2.2.2.1, E.2.2.2.2.1⟩ hM (va_cwF nA E.2.2.2.2.1 hG rfl rfl rfl ((zE_S E).2.1 (C, x, y) h5) h6 ⟨by rw [zE_f E]; exact hfr, by rw [zE_o E]; exact hlo⟩) ⟨zPc_blind, zE_recv E a2 hc (he h9 a1), zPc_pre E.2.2.2.2.2.1 a1 a2⟩ rfl hn9 a4.1 hst (zroom hrest) hd ⟨by omega, by omega⟩) a3 a4 a5 a6 hk hn kx kk
end ZS
/-! entries -/
theorem zm_of {l : Launch} {w : zWd} {y : MethodName} {b : ByteArray} {L fr lo mc ms : Nat} {r : Option FieldType} {args : List Value} {S : zH → Prop} {P : Option Value → zH → Prop} {PX : Nat → zH → Prop} {lv : List (Nat × Value)} (hy : plainName y.cls = true) (hlv : lv_args 0 args = lv) (hlen : (lg_sl args).length ≤ L)
    (body : ∀ X, zl X = l → zOK X w y.cls b L fr lo [] r y.name → Z X w L (zQ X w P PX) S mc ms lv 0 []) : ZM l w y (ws_ y b L r) fr lo mc ms args S P PX := by
  refine vx_ofW (cc := b) (maxL := L) (ret := r) hy rfl ?_
  intro p e s m a below meth c s₁ B hml htb hv
  obtain ⟨rfl, ⟨h, hS, hp⟩, hK⟩ := hv
  have hts := atoms_spec (ws := ws_ y b L r) B.pre
  have E : zOK (p, l, e, (headSpec (ws_ y b L r) ({ frames := fr, cells := mc, slots := ms, locals := lo } : Room)).room, s, m, args.toArray, below, meth, c) w y.cls b L fr lo [] r y.name :=
    ⟨B.exec, B.bytes, hml, findClass_of_methodNamed B.named, fun wd hw => hts wd (List.mem_cons_of_mem _ hw), hK, B.notSynchronized, List.eq_nil_iff_forall_not_mem.mpr htb, rfl, rfl, B.returns, (name_of_methodNamed B.named B.method).1⟩
  have hl := lv_entry args hlen
  rw [hlv] at hl
  rw [lg_entry_eq]
  exact body _ rfl E h s.heap [] _ 0 0 hS hp (fun q hq => by cases hq) hl (by show 0 + mc ≤ mc; omega) (by show 0 + ms ≤ ms; omega)
theorem zm_ofH {l : Launch} {w : zWd} {y : MethodName} {b : ByteArray} {L fr lo mc ms : Nat} {r : Option FieldType} {hh : zTb} {args : List Value} {S : zH → Prop} {P : Option Value → zH → Prop} {PX : Nat → zH → Prop} {lv : List (Nat × Value)} (hy : plainName y.cls = true) (hlv : lv_args 0 args = lv) (hlen : (lg_sl args).length ≤ L)
    (body : ∀ X, zl X = l → zOK X w y.cls b L fr lo hh r y.name → Z X w L (zQ X w P PX) S mc ms lv 0 []) : ZM l w y (wsW_ y b L r hh) fr lo mc ms args S P PX := by
  refine vx_ofWH (cc := b) (maxL := L) (ret := r) (hh := hh) hy rfl ?_
  intro p e s m a below meth c s₁ B hml hv
  obtain ⟨rfl, ⟨h, hS, hp⟩, hK⟩ := hv
  have hts := atoms_spec (ws := wsW_ y b L r hh) B.pre
  have E : zOK (p, l, e, (headSpec (wsW_ y b L r hh) ({ frames := fr, cells := mc, slots := ms, locals := lo } : Room)).room, s, m, args.toArray, below, meth, c) w y.cls b L fr lo hh r y.name :=
    ⟨B.exec, B.bytes, hml, findClass_of_methodNamed B.named, fun wd hw => hts wd (List.mem_cons_of_mem _ hw), hK, B.notSynchronized, vx_table (x := y) B (hts _ List.mem_cons_self), rfl, rfl, B.returns, (name_of_methodNamed B.named B.method).1⟩
  have hl := lv_entry args hlen
  rw [hlv] at hl
  rw [lg_entry_eq]
  exact body _ rfl E h s.heap [] _ 0 0 hS hp (fun q hq => by cases hq) hl (by show 0 + mc ≤ mc; omega) (by show 0 + ms ≤ ms; omega)
/-- an int answer, and what is known then -/
def zri (r : Int32) (S : zH → Prop) : Option Value → zH → Prop := fun v h => v = some (.int r) ∧ S h
def zrv (S : zH → Prop) : Option Value → zH → Prop := fun v h => v = none ∧ S h
def zra (r : Nat) (S : zH → Prop) : Option Value → zH → Prop := fun v h => v = some (.ref r) ∧ S h
