/-! THE MODEL's WORLD: one object, nine int arrays. σ.1: its ints by field number; σ.2: its arrays by field number -/
set_option maxRecDepth 100000
theorem zm_to {l : Launch} {w : zWd} {y : MethodName} {ws : List Cond} {fr lo mc ms : Nat} {args : List Value} {S S' : zH → Prop} {P P' : Option Value → zH → Prop} {PX PX' : Nat → zH → Prop} (hS : ∀ h, S' h → S h) (hP : ∀ v h, P v h → P' v h) (hX : ∀ q h, PX q h → PX' q h) (hM : ZM l w y ws fr lo mc ms args S P PX) : ZM l w y ws fr lo mc ms args S' P' PX' := by
  intro p e ha hf hk s m a below hfr happ hp hK
  obtain ⟨h1, ⟨h2, h3, h4⟩, h5⟩ := hp
  obtain ⟨n, o, e1, e2, e3, e4⟩ := hM p e ha hf hk s m a below hfr happ ⟨h1, ⟨h2, hS h2 h3, h4⟩, h5⟩ hK
  refine ⟨n, o, e1, e2, e3, ?_⟩
  rcases e4 with ⟨⟨v, h', q1, q2, q3⟩, q4⟩ | ⟨q, q0, E, ce, L, ⟨h', q1, q2, q3⟩, q4⟩
  · exact Or.inl ⟨⟨v, h', q1, hP v h' q2, q3⟩, q4⟩
  · exact Or.inr ⟨q, q0, E, ce, L, ⟨h', hX q h' q1, q2, q3⟩, q4⟩
section ZS2
variable {X : zX} {w : zWd} {own nm : String} {cc : ByteArray} {nL fr lo : Nat} {tb : zTb} {ret : Option FieldType} {Q : State → Prop} {S S' : zH → Prop} {k n k' n' : Nat} {lv : List (Nat × Value)} {pc : Nat} {st rest : List Value}
variable {y x : MethodName} {C owner host : String} {b : ByteArray} {L nA fr' lo' mc ms ro index ci N : Nat} {r : Option FieldType} {hh : zTb} {T : u_T} {fs : List Value} {As : List Value}
/-- calls that cannot throw, by the kind of their answer -/
theorem z_callSi {v : Int32} (E : zOK X w own cc nL fr lo tb ret nm) (hC : zCS y b L r nA) (hM : ZM (zl X) w y (ws_ y b L r) fr' lo' mc ms As S (zri v S') zno) (hl : Cond.methodLink own index y ∈ lw_all) (hst : st = As.reverse ++ rest) (hn9 : As.length = nA) (hfr : fr' + 1 ≤ fr) (hlo : 8 + (L + 11) + lo' ≤ lo) (hrest : (rest.map fun v => v.category).sum ≤ 8) (hd : decode cc pc = .ok (.invokestatic index, 3)) (hk : mc + k' ≤ k) (hn : ms + n' ≤ n) (kk : Z X w nL Q S' k' n' lv (pc + 3) (.int v :: rest)) : Z X w nL Q S k n lv pc st :=
  z_callS E hC hM hl hst hn9 hfr hlo hrest hd hk hn (fun _ _ h => h.elim) (fun u h hu => by obtain ⟨rfl, h2⟩ := hu; exact z_to (fun g e => e ▸ h2) kk)
theorem z_callSv (E : zOK X w own cc nL fr lo tb ret nm) (hC : zCS y b L r nA) (hM : ZM (zl X) w y (ws_ y b L r) fr' lo' mc ms As S (zrv S') zno) (hl : Cond.methodLink own index y ∈ lw_all) (hst : st = As.reverse ++ rest) (hn9 : As.length = nA) (hfr : fr' + 1 ≤ fr) (hlo : 8 + (L + 11) + lo' ≤ lo) (hrest : (rest.map fun v => v.category).sum ≤ 8) (hd : decode cc pc = .ok (.invokestatic index, 3)) (hk : mc + k' ≤ k) (hn : ms + n' ≤ n) (kk : Z X w nL Q S' k' n' lv (pc + 3) rest) : Z X w nL Q S k n lv pc st :=
  z_callS E hC hM hl hst hn9 hfr hlo hrest hd hk hn (fun _ _ h => h.elim) (fun u h hu => by obtain ⟨rfl, h2⟩ := hu; exact z_to (fun g e => e ▸ h2) kk)
theorem z_callVi {v : Int32} (E : zOK X w own cc nL fr lo tb ret nm) (hC : zCV y C b L r nA) (hM : ZM (zl X) w y (ws_ y b L r) fr' lo' mc ms (.ref ro :: As) S (zri v S') zno) (hl : Cond.methodLink own index y ∈ lw_all) (hc : zcl[ci]? = some (C, T, N)) (he : ∀ h, S h → h ro = some (zo ci fs)) (hst : st = As.reverse ++ .ref ro :: rest) (hn9 : As.length = nA) (hfr : fr' + 1 ≤ fr) (hlo : 8 + (L + 11) + lo' ≤ lo) (hrest : (rest.map fun v => v.category).sum ≤ 8) (hd : decode cc pc = .ok (.invokevirtual index, 3)) (hk : mc + k' ≤ k) (hn : ms + n' ≤ n) (kk : Z X w nL Q S' k' n' lv (pc + 3) (.int v :: rest)) : Z X w nL Q S k n lv pc st :=
  z_callV E hC hM hl hc he hst hn9 hfr hlo hrest hd hk hn (fun _ _ h => h.elim) (fun u h hu => by obtain ⟨rfl, h2⟩ := hu; exact z_to (fun g e => e ▸ h2) kk)
theorem z_callVv (E : zOK X w own cc nL fr lo tb ret nm) (hC : zCV y C b L r nA) (hM : ZM (zl X) w y (ws_ y b L r) fr' lo' mc ms (.ref ro :: As) S (zrv S') zno) (hl : Cond.methodLink own index y ∈ lw_all) (hc : zcl[ci]? = some (C, T, N)) (he : ∀ h, S h → h ro = some (zo ci fs)) (hst : st = As.reverse ++ .ref ro :: rest) (hn9 : As.length = nA) (hfr : fr' + 1 ≤ fr) (hlo : 8 + (L + 11) + lo' ≤ lo) (hrest : (rest.map fun v => v.category).sum ≤ 8) (hd : decode cc pc = .ok (.invokevirtual index, 3)) (hk : mc + k' ≤ k) (hn : ms + n' ≤ n) (kk : Z X w nL Q S' k' n' lv (pc + 3) rest) : Z X w nL Q S k n lv pc st :=
  z_callV E hC hM hl hc he hst hn9 hfr hlo hrest hd hk hn (fun _ _ h => h.elim) (fun u h hu => by obtain ⟨rfl, h2⟩ := hu; exact z_to (fun g e => e ▸ h2) kk)
/-- branches on small numbers -/
theorem zn_clamp {a : Nat} (h : a < 2147483648) : (nI a).toNatClampNeg = a := nI_clamp h
theorem z_icmp_geN (E : zOK X w own cc nL fr lo tb ret nm) {a b : Nat} {off : Int} {tgt : Nat} (ha : a < 2147483648) (hb : b < 2147483648) (hd : decode cc pc = .ok (.if_icmp .ge off, 3)) (ht : (pc : Int) + off = (tgt : Int)) (kt : b ≤ a → Z X w nL Q S k n lv tgt st) (kf : a < b → Z X w nL Q S k n lv (pc + 3) st) : Z X w nL Q S k n lv pc (.int (nI b) :: .int (nI a) :: st) :=
  z_icmp_ge E hd ht (fun q => kt ((nI_leI hb ha).mp q)) (fun q => kf (Nat.lt_of_not_le fun z => q ((nI_leI hb ha).mpr z)))
theorem z_icmp_ltN (E : zOK X w own cc nL fr lo tb ret nm) {a b : Nat} {off : Int} {tgt : Nat} (ha : a < 2147483648) (hb : b < 2147483648) (hd : decode cc pc = .ok (.if_icmp .lt off, 3)) (ht : (pc : Int) + off = (tgt : Int)) (kt : a < b → Z X w nL Q S k n lv tgt st) (kf : b ≤ a → Z X w nL Q S k n lv (pc + 3) st) : Z X w nL Q S k n lv pc (.int (nI b) :: .int (nI a) :: st) :=
  z_icmp_lt E hd ht (fun q => kt ((nI_ltI ha hb).mp q)) (fun q => kf (Nat.le_of_not_lt fun z => q ((nI_ltI ha hb).mpr z)))
theorem z_icmp_gtN (E : zOK X w own cc nL fr lo tb ret nm) {a b : Nat} {off : Int} {tgt : Nat} (ha : a < 2147483648) (hb : b < 2147483648) (hd : decode cc pc = .ok (.if_icmp .gt off, 3)) (ht : (pc : Int) + off = (tgt : Int)) (kt : b < a → Z X w nL Q S k n lv tgt st) (kf : a ≤ b → Z X w nL Q S k n lv (pc + 3) st) : Z X w nL Q S k n lv pc (.int (nI b) :: .int (nI a) :: st) :=
  z_icmp_gt E hd ht (fun q => kt ((nI_ltI hb ha).mp q)) (fun q => kf (Nat.le_of_not_lt fun z => q ((nI_ltI hb ha).mpr z)))
theorem z_icmp_leN (E : zOK X w own cc nL fr lo tb ret nm) {a b : Nat} {off : Int} {tgt : Nat} (ha : a < 2147483648) (hb : b < 2147483648) (hd : decode cc pc = .ok (.if_icmp .le off, 3)) (ht : (pc : Int) + off = (tgt : Int)) (kt : a ≤ b → Z X w nL Q S k n lv tgt st) (kf : b < a → Z X w nL Q S k n lv (pc + 3) st) : Z X w nL Q S k n lv pc (.int (nI b) :: .int (nI a) :: st) :=
  z_icmp_le E hd ht (fun q => kt ((nI_leI ha hb).mp q)) (fun q => kf (Nat.lt_of_not_le fun z => q ((nI_leI ha hb).mpr z)))
theorem z_icmp_eqN (E : zOK X w own cc nL fr lo tb ret nm) {a b : Nat} {off : Int} {tgt : Nat} (ha : a < 2147483648) (hb : b < 2147483648) (hd : decode cc pc = .ok (.if_icmp .eq off, 3)) (ht : (pc : Int) + off = (tgt : Int)) (kt : a = b → Z X w nL Q S k n lv tgt st) (kf : ¬ a = b → Z X w nL Q S k n lv (pc + 3) st) : Z X w nL Q S k n lv pc (.int (nI b) :: .int (nI a) :: st) :=
  z_icmp_eq E hd ht (fun q => kt ((nI_eq ha hb).mp q)) (fun q => kf fun z => q ((nI_eq ha hb).mpr z))
theorem z_icmp_neN (E : zOK X w own cc nL fr lo tb ret nm) {a b : Nat} {off : Int} {tgt : Nat} (ha : a < 2147483648) (hb : b < 2147483648) (hd : decode cc pc = .ok (.if_icmp .ne off, 3)) (ht : (pc : Int) + off = (tgt : Int)) (kt : ¬ a = b → Z X w nL Q S k n lv tgt st) (kf : a = b → Z X w nL Q S k n lv (pc + 3) st) : Z X w nL Q S k n lv pc (.int (nI b) :: .int (nI a) :: st) :=
  z_icmp_ne E hd ht (fun q => kt fun z => q ((nI_eq ha hb).mpr z)) (fun q => kf ((nI_eq ha hb).mp q))
/-- sums of small numbers -/
theorem z_iaddN (E : zOK X w own cc nL fr lo tb ret nm) {a b : Nat} (hd : decode cc pc = .ok (.iadd, 1)) (kk : Z X w nL Q S k n lv (pc + 1) (.int (nI (a + b)) :: st)) : Z X w nL Q S k n lv pc (.int (nI b) :: .int (nI a) :: st) := z_iadd E hd (by rw [nI_add]; exact kk)
theorem z_imulN (E : zOK X w own cc nL fr lo tb ret nm) {a b : Nat} (hd : decode cc pc = .ok (.imul, 1)) (kk : Z X w nL Q S k n lv (pc + 1) (.int (nI (a * b)) :: st)) : Z X w nL Q S k n lv pc (.int (nI b) :: .int (nI a) :: st) := z_imul E hd (by rw [pk_mul]; exact kk)
theorem z_isubN (E : zOK X w own cc nL fr lo tb ret nm) {a b : Nat} (hab : b ≤ a) (hd : decode cc pc = .ok (.isub, 1)) (kk : Z X w nL Q S k n lv (pc + 1) (.int (nI (a - b)) :: st)) : Z X w nL Q S k n lv pc (.int (nI b) :: .int (nI a) :: st) := z_isub E hd (by rw [pk_sub hab]; exact kk)
/-- an int on the stack, said otherwise -/
theorem z_top {a b : Int32} (h : a = b) (kk : Z X w nL Q S k n lv pc (.int b :: st)) : Z X w nL Q S k n lv pc (.int a :: st) := by rw [h]; exact kk
end ZS2
abbrev mSt : Type := (Nat → Int32) × (Nat → Nat → Int32)
def setF (σ : mSt) (f : Nat) (x : Int32) : mSt := (upd σ.1 f x, σ.2)
def setA (σ : mSt) (j q : Nat) (x : Int32) : mSt := (σ.1, fun i => if i = j then upd (σ.2 j) q x else σ.2 i)
def putA (σ : mSt) (j : Nat) (f : Nat → Int32) : mSt := (σ.1, fun i => if i = j then f else σ.2 i)
def mfs (ad : Nat → Nat) (σ : mSt) : List Value := [.int (σ.1 0), .int (σ.1 1), .int (σ.1 2), .int (σ.1 3), .int (σ.1 4), .int (σ.1 5), .int (σ.1 6), .int (σ.1 7), .int (σ.1 8), .ref (ad 9), .ref (ad 10), .ref (ad 11), .ref (ad 12), .ref (ad 13), .ref (ad 14), .ref (ad 15), .int (σ.1 16), .ref (ad 17), .ref (ad 18), .int (σ.1 19), .int (σ.1 20), .int (σ.1 21), .int (σ.1 22), .int (σ.1 23), .int (σ.1 24)]
def mlen (j : Nat) : Nat := match j with
  | 13 => 1008
  | 14 => 6
  | 15 => 6
  | 17 => 60
  | 18 => 140
  | _ => 126
def mAr : List Nat := [9, 10, 11, 12, 13, 14, 15, 17, 18]
def isM (m : Nat) (ad : Nat → Nat) (σ : mSt) (h : zH) : Prop := h m = some (zo 4 (mfs ad σ)) ∧ (∀ j ∈ mAr, h (ad j) = some (zi (mlen j) (σ.2 j))) ∧ (∀ i ∈ mAr, ∀ j ∈ mAr, ad i = ad j → i = j) ∧ ∀ j ∈ mAr, ad j ≠ m
/-- the model, and nothing else changed since h0 -/
def mS (m : Nat) (ad : Nat → Nat) (h0 : zH) (σ : mSt) : zH → Prop := fun h => isM m ad σ h ∧ ∀ a, a ≠ m → (∀ j ∈ mAr, a ≠ ad j) → h a = h0 a
theorem mS_o {m : Nat} {ad : Nat → Nat} {h0 : zH} {σ : mSt} : ∀ h, mS m ad h0 σ h → h m = some (zo 4 (mfs ad σ)) := fun _ q => q.1.1
theorem mS_a {m : Nat} {ad : Nat → Nat} {h0 : zH} {σ : mSt} (j : Nat) (hj : j ∈ mAr) : ∀ h, mS m ad h0 σ h → h (ad j) = some (zi (mlen j) (σ.2 j)) := fun _ q => q.1.2.1 j hj
theorem mS_F {m : Nat} {ad : Nat → Nat} {h0 : zH} {σ : mSt} {f : Nat} {x : Int32} {fs : List Value} (hf : mfs ad (setF σ f x) = fs) : ∀ h, mS m ad h0 σ h → mS m ad h0 (setF σ f x) (zset h m (zo 4 fs)) := by
  intro h q
  subst hf
  obtain ⟨⟨q1, q2, q3, q4⟩, q5⟩ := q
  refine ⟨⟨zset_eq, fun j hj => ?_, q3, q4⟩, fun a h1 h2 => ?_⟩
  · rw [zset_ne (q4 j hj)]; exact q2 j hj
  · rw [zset_ne h1]; exact q5 a h1 h2
theorem mS_P {m : Nat} {ad : Nat → Nat} {h0 : zH} {σ : mSt} {j : Nat} {f : Nat → Int32} (hj : j ∈ mAr) : ∀ h, mS m ad h0 σ h → mS m ad h0 (putA σ j f) (zset h (ad j) (zi (mlen j) f)) := by
  intro h q
  obtain ⟨⟨q1, q2, q3, q4⟩, q5⟩ := q
  refine ⟨⟨?_, fun i hi => ?_, q3, q4⟩, fun a h1 h2 => ?_⟩
  · rw [zset_ne (Ne.symm (q4 j hj))]; exact q1
  · by_cases e : i = j
    · subst e
      rw [zset_eq]
      simp [putA]
    · rw [zset_ne (fun z => e (q3 i hi j hj z)), q2 i hi]
      simp [putA, e]
  · rw [zset_ne (h2 j hj)]; exact q5 a h1 h2
theorem setA_put {σ : mSt} {j q : Nat} {x : Int32} : setA σ j q x = putA σ j (upd (σ.2 j) q x) := rfl
theorem setF_1 {σ : mSt} {f g : Nat} {x : Int32} : (setF σ f x).1 g = if g = f then x else σ.1 g := rfl
theorem setF_2 {σ : mSt} {f : Nat} {x : Int32} : (setF σ f x).2 = σ.2 := rfl
theorem setA_1 {σ : mSt} {j q : Nat} {x : Int32} : (setA σ j q x).1 = σ.1 := rfl
theorem putA_1 {σ : mSt} {j : Nat} {f : Nat → Int32} : (putA σ j f).1 = σ.1 := rfl
theorem putA_2 {σ : mSt} {j i : Nat} {f : Nat → Int32} : (putA σ j f).2 i = if i = j then f else σ.2 i := rfl
theorem setA_2 {σ : mSt} {j i q : Nat} {x : Int32} : (setA σ j q x).2 i = if i = j then upd (σ.2 j) q x else σ.2 i := rfl
section ZM1
variable {X : zX} {w : zWd} {cc : ByteArray} {nL fr lo : Nat} {tb : zTb} {ret : Option FieldType} {nm : String} {Q : State → Prop} {k n : Nat} {lv : List (Nat × Value)} {pc : Nat} {st : List Value} {m : Nat} {ad : Nat → Nat} {h0 : zH} {σ : mSt}
abbrev mcl : zcl[4]? = some (RX4, TX4, 25) := rfl
theorem m_get (E : zOK X w RX4 cc nL fr lo tb ret nm) {index : Nat} {v : Value} (f : Nat) (hf : f < 25) (hv : (mfs ad σ)[f]? = some v) (hlink : Cond.fieldLink RX4 index RX4 (TX4 f).2.1 (TX4 f).2.2.1 ∈ lw_all) (hsm : (TX4 f).1 = RX4) (hd : decode cc pc = .ok (.getfield index, 3)) (kk : Z X w nL Q (mS m ad h0 σ) k n lv (pc + 3) (v :: st)) : Z X w nL Q (mS m ad h0 σ) k n lv pc (.ref m :: st) :=
  z_get E (ci := 4) in_X4 mcl f hf hlink (fun x h => by rw [hsm] at h; exact h) mS_o hv hd kk
theorem m_put (E : zOK X w RX4 cc nL fr lo tb ret nm) {index : Nat} {v : Int32} {ty : FieldType} (f : Nat) (hf : f < 25) (hlink : Cond.fieldLink RX4 index RX4 (TX4 f).2.1 (TX4 f).2.2.1 ∈ lw_all) (hsm : (TX4 f).1 = RX4) (hfin : (TX4 f).2.2.2 = false) (hd9 : parseFieldDescriptor (TX4 f).2.2.1 = some ty) (hn : narrow ty (.int v) = .int v) (hfit : fits ty (.int v) = true) (hfs : (mfs ad σ).set f (.int v) = mfs ad (setF σ f v)) (hd : decode cc pc = .ok (.putfield index, 3)) (kk : Z X w nL Q (mS m ad h0 (setF σ f v)) k n lv (pc + 3) st) : Z X w nL Q (mS m ad h0 σ) k n lv pc (.int v :: .ref m :: st) :=
  z_put E (ci := 4) in_X4 tyX4 tyX4_ok nmX4 mcl f hf hlink (fun x h => by rw [hsm] at h; exact h) hfin hd9 hn hfit mS_o hf hfs hd (mS_F rfl) kk
theorem m_ald (E : zOK X w RX4 cc nL fr lo tb ret nm) {j q : Nat} (hj : j ∈ mAr) (hq : q < mlen j) (hq2 : q < 2147483648) (hd : decode cc pc = .ok (.iaload, 1)) (kk : Z X w nL Q (mS m ad h0 σ) k n lv (pc + 1) (.int (σ.2 j q) :: st)) : Z X w nL Q (mS m ad h0 σ) k n lv pc (.int (nI q) :: .ref (ad j) :: st) := by
  have hm : mlen j < 2147483648 := by
    unfold mlen; split <;> decide
  exact z_iald E (mS_a j hj) (vp_in_nI hq hm) (by rw [nI_clamp hq2]) hd kk
theorem m_ast (E : zOK X w RX4 cc nL fr lo tb ret nm) {j q : Nat} {x : Int32} (hj : j ∈ mAr) (hq : q < mlen j) (hq2 : q < 2147483648) (hd : decode cc pc = .ok (.iastore, 1)) (kk : Z X w nL Q (mS m ad h0 (setA σ j q x)) k n lv (pc + 1) st) : Z X w nL Q (mS m ad h0 σ) k n lv pc (.int x :: .int (nI q) :: .ref (ad j) :: st) := by
  have hm : mlen j < 2147483648 := by
    unfold mlen; split <;> decide
  exact z_iast E (mS_a j hj) (vp_in_nI hq hm) (by rw [nI_clamp hq2]) hd (mS_P hj) kk
end ZM1
