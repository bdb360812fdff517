set_option maxRecDepth 16384
section
section Zy
variable {T : Nat → Int} {n : Nat} {σ σ' σ'' σ0 σ1 : PS}
def sgm (T : Nat → Int) (n : Nat) (σ σ' : PS) : Prop := psO T n σ' ∧ σ.1.2.1 ≤ σ'.1.2.1 ∧ ∃ w, σ'.2 = σ.2 ++ w
theorem sgm.refl (o : psO T n σ) : sgm T n σ σ := sorry
theorem sgm.trans (h : sgm T n σ σ') (g : sgm T n σ' σ'') : sgm T n σ σ'' := sorry
theorem sgm.len (h : sgm T n σ σ') : σ.2.length ≤ σ'.2.length := sorry
def nmI (σ σ' : PS) (x : Nm) : Prop := nmOK x.1 ∧ (σ.1.2.1 ≤ x.2.1 ∧ x.2.1 < σ'.1.2.1) ∧ (σ.2.length ≤ x.2.2 ∧ x.2.2 + x.1.length ≤ σ'.2.length) ∧ ∀ (i : Nat) (y : Int), x.1[i]? = some y → σ'.2[x.2.2 + i]? = some y
theorem nmI.mono {x : Nm} (h : nmI σ σ' x) (a : sgm T n σ0 σ) (b : sgm T n σ' σ1) : nmI σ0 σ1 x := sorry
theorem nmI.t {x : Nm} (h : nmI σ σ' x) : nmT x.1 := sorry
def nuI (σ σ' : PS) (x : Int × Nat) : Prop := (σ.1.2.1 ≤ x.2 ∧ x.2 < σ'.1.2.1) ∧ -9223372036854775808 ≤ x.1 ∧ x.1 < 9223372036854775808
theorem nuI.mono {x : Int × Nat} (h : nuI σ σ' x) (a : sgm T n σ0 σ) (b : sgm T n σ' σ1) : nuI σ0 σ1 x := sorry
theorem spA_sg (hT : ∀ k, k < n → 0 ≤ T k ∧ T k < 256) (o : psO T n σ) (z : σ.1.1 ≠ 0) (e : spA T n σ = .inr σ') : sgm T n σ σ' ∧ σ.1.2.1 < σ'.1.2.1 := sorry
theorem spG_sg (hT : ∀ k, k < n → 0 ≤ T k ∧ T k < 256) {c : Int} (o : psO T n σ) (e : spG T n c σ = .inr σ') : sgm T n σ σ' ∧ σ.1.2.1 < σ'.1.2.1 := sorry
theorem spW_sg (hT : ∀ k, k < n → 0 ≤ T k ∧ T k < 256) {c : Int} (o : psO T n σ) (e : spW T n c σ = .inr σ') : sgm T n σ σ' ∧ σ.1.2.1 < σ'.1.2.1 := sorry
theorem spN_sg (hT : ∀ k, k < n → 0 ≤ T k ∧ T k < 256) {b : Bool} {p : Nm × PS} (o : psO T n σ) (e : spN T n b σ = .inr p) : sgm T n σ p.2 ∧ nmI σ p.2 p.1 ∧ σ.1.2.1 < p.2.1.2.1 := sorry
theorem spU0_sg (hT : ∀ k, k < n → 0 ≤ T k ∧ T k < 256) {p : (Int × Nat) × PS} (o : psO T n σ) (e : spU0 T n σ = .inr p) : sgm T n σ p.2 ∧ nuI σ p.2 p.1 ∧ 0 ≤ p.1.1 ∧ σ.1.2.1 < p.2.1.2.1 := sorry
theorem spI_sg (hT : ∀ k, k < n → 0 ≤ T k ∧ T k < 256) {p : (Int × Nat) × PS} (o : psO T n σ) (e : spI T n σ = .inr p) : sgm T n σ p.2 ∧ nuI σ p.2 p.1 ∧ σ.1.2.1 < p.2.1.2.1 := sorry
theorem spConsts_sg (hT : ∀ k, k < n → 0 ≤ T k ∧ T k < 256) : ∀ (f j : Nat) (σ : PS) (p : List Cn × PS), psO T n σ → spConsts T n f j σ = .inr p → sgm T n σ p.2 ∧ 0 < p.1.length ∧ (∀ x ∈ p.1, nmI σ p.2 x.1 ∧ nuI σ p.2 x.2) ∧ p.1.Pairwise fun a b => a.1.2.1 < b.1.2.1 ∧ a.1.2.2 < b.1.2.2 ∧ a.2.2 < b.2.2 := sorry
theorem spT_sg (hT : ∀ k, k < n → 0 ≤ T k ∧ T k < 256) {p : Tr × PS} (o : psO T n σ) (e : spT T n σ = .inr p) : sgm T n σ p.2 ∧ trO p.1 ∧ σ.1.2.1 < p.2.1.2.1 := sorry
def vlJ (v : Vl) : Prop := vlO v ∧ (-9223372036854775808 ≤ v.2.1 ∧ v.2.1 < 9223372036854775808) ∧ v.2.2.1.length ≤ 60 ∧ byt v.2.2.1
theorem vlJ_mk {a b : Int} {l : List Int} {q : Nat} (h1 : 0 ≤ a ∧ a ≤ 4) (h2 : a = 4 → nmT l) (h3 : -9223372036854775808 ≤ b ∧ b < 9223372036854775808) (h4 : l.length ≤ 60) (h5 : byt l) : vlJ (a, b, l, q) := sorry
theorem spV_sg (hT : ∀ k, k < n → 0 ≤ T k ∧ T k < 256) {p : Vl × PS} (o : psO T n σ) (e : spV T n σ = .inr p) : sgm T n σ p.2 ∧ vlJ p.1 := sorry
end Zy
end
section
section Zz
variable {T : Nat → Int} {n : Nat} {σ σ' σ'' σ0 σ1 : PS}
theorem spMo_sg (hT : ∀ k, k < n → 0 ≤ T k ∧ T k < 256) {p : Int × PS} (o : psO T n σ) (e : spMo T n σ = .inr p) : sgm T n σ p.2 ∧ 0 ≤ p.1 ∧ p.1 ≤ 2 := sorry
theorem spMap_sg (hT : ∀ k, k < n → 0 ≤ T k ∧ T k < 256) {p : Option (Nat × Tr) × PS} (o : psO T n σ) (e : spMap T n σ = .inr p) : sgm T n σ p.2 ∧ ∀ m, p.1 = some m → trO m.2 := sorry
theorem spEq_sg (hT : ∀ k, k < n → 0 ≤ T k ∧ T k < 256) {p : Option Vl × PS} (o : psO T n σ) (e : spEq T n σ = .inr p) : sgm T n σ p.2 ∧ ∀ v, p.1 = some v → vlJ v := sorry
def feI (σ σ' : PS) (x : Fe) : Prop := nmI σ σ' x.2.2.2.2.1 ∧ (nuI σ σ' x.2.2.2.2.2.1 ∧ 0 ≤ x.2.2.2.2.2.1.1) ∧ feO x ∧ ∀ v, x.2.2.2.2.2.2 = some v → vlJ v
theorem feI.mono {x : Fe} (h : feI σ σ' x) (a : sgm T n σ0 σ) (b : sgm T n σ' σ1) : feI σ0 σ1 x := sorry
theorem spFl_sg (hT : ∀ k, k < n → 0 ≤ T k ∧ T k < 256) {one : Int} {nf : Nat} {p : Fe × PS} (o : psO T n σ) (e : spFl T n one nf σ = .inr p) : sgm T n σ p.2 ∧ feI σ p.2 p.1 ∧ p.1.1 = one ∧ σ.1.2.1 < p.2.1.2.1 := sorry
def evN (E : List Ev) : List Nm := E.filterMap fun x => match x with
  | .inl _ => none
  | .inr (.inl y) => some y
  | .inr (.inr y) => some y.2.2.2.2.1
def evU (E : List Ev) : List (Int × Nat) := E.filterMap fun x => match x with
  | .inl y => some y
  | .inr (.inl _) => none
  | .inr (.inr y) => some y.2.2.2.2.2.1
def conF (L : List Fe) : Prop := ∀ (i j l : Nat) (a b c : Fe), L[i]? = some a → L[j]? = some b → L[l]? = some c → i ≤ j → j ≤ l → 0 ≤ a.1 → c.1 = a.1 → b.1 = a.1
theorem conF.app {A B : List Fe} (h : conF A) (g : conF B) (no : ∀ a ∈ A, ∀ c ∈ B, 0 ≤ a.1 → c.1 ≠ a.1) : conF (A ++ B) := sorry
theorem conF.all {A : List Fe} {o : Int} (h : ∀ a ∈ A, a.1 = o) : conF A := sorry
theorem conF.one {x : Fe} : conF [x] := sorry
def evI (σ σ' : PS) (no : Nat) (E : List Ev) : Prop := ((∀ x ∈ evN E, nmI σ σ' x) ∧ (evN E).Pairwise fun a b => a.2.1 < b.2.1 ∧ a.2.2 < b.2.2) ∧ ((∀ x ∈ evU E, nuI σ σ' x ∧ 0 ≤ x.1) ∧ (evU E).Pairwise fun a b => a.2 < b.2) ∧ (∀ y ∈ evF E, feI σ σ' y ∧ (y.1 = -1 ∨ (no : Int) ≤ y.1 ∧ y.1 < ((no + (evO E).length : Nat) : Int))) ∧ (∀ o, no ≤ o → o < no + (evO E).length → ∃ y ∈ evF E, y.1 = (o : Int)) ∧ conF (evF E)
theorem evI.mono {no : Nat} {E : List Ev} (h : evI σ σ' no E) (a : sgm T n σ0 σ) (b : sgm T n σ' σ1) : evI σ0 σ1 no E := sorry
theorem evI.app {no m : Nat} {A B : List Ev} (h : evI σ σ1 no A) (g : evI σ1 σ' m B) (hm : m = no + (evO A).length) (s1 : sgm T n σ σ1) (s2 : sgm T n σ1 σ') (o : psO T n σ) : evI σ σ' no (A ++ B) := sorry
theorem evI.nil {no : Nat} : evI σ σ' no [] := sorry
end Zz
end
section
section ZA
variable {T : Nat → Int} {n : Nat} {σ σ' σ'' σ0 σ1 : PS}
theorem evI.fld {no : Nat} {x : Fe} (h : feI σ σ' x) (z : x.1 = -1) : evI σ σ' no [Sum.inr (Sum.inr x)] := sorry
theorem evI.kp {no : Nat} : ∀ {L : List (Int × Nat)}, (∀ x ∈ L, nuI σ σ' x ∧ 0 ≤ x.1) → L.Pairwise (fun a b => a.2 < b.2) → evI σ σ' no (L.map Sum.inl) := sorry
theorem spKeeps_sg (hT : ∀ k, k < n → 0 ≤ T k ∧ T k < 256) : ∀ (f : Nat) (σ : PS) (p : List (Int × Nat) × PS), psO T n σ → spKeeps T n f σ = .inr p → sgm T n σ p.2 ∧ (∀ x ∈ p.1, nuI σ p.2 x ∧ 0 ≤ x.1) ∧ p.1.Pairwise fun a b => a.2 < b.2 := sorry
def fsI (σ σ' : PS) (one : Int) (L : List Fe) : Prop := (∀ x ∈ L, feI σ σ' x ∧ x.1 = one) ∧ L.Pairwise fun a b => (a.2.2.2.2.1.2.1 < b.2.2.2.2.1.2.1 ∧ a.2.2.2.2.1.2.2 < b.2.2.2.2.1.2.2) ∧ a.2.2.2.2.2.1.2 < b.2.2.2.2.2.1.2
theorem spOF_sg (hT : ∀ k, k < n → 0 ≤ T k ∧ T k < 256) {one : Int} : ∀ (f nf : Nat) (σ : PS) (p : List Fe × PS), psO T n σ → spOF T n one f nf σ = .inr p → sgm T n σ p.2 ∧ fsI σ p.2 one p.1 ∧ 0 < p.1.length := sorry
theorem evI.one (hT : ∀ k, k < n → 0 ≤ T k ∧ T k < 256) {no : Nat} {x : Nm} {L : List Fe} (o : psO T n σ) (h : nmI σ σ1 x) (g : fsI σ1 σ' (no : Int) L) (l0 : 0 < L.length) (s1 : sgm T n σ σ1) (s2 : sgm T n σ1 σ') : evI σ σ' no (Sum.inr (Sum.inl x) :: L.map (fun x => Sum.inr (Sum.inr x))) := sorry
theorem spBody_sg (hT : ∀ k, k < n → 0 ≤ T k ∧ T k < 256) : ∀ (f no nf : Nat) (σ : PS) (p : List Ev × PS), psO T n σ → spBody T n f no nf σ = .inr p → sgm T n σ p.2 ∧ evI σ p.2 no p.1 := sorry
end ZA
end
section
section ZB
variable {T : Nat → Int} {n : Nat} {σ σ' σ'' σ0 σ1 : PS}
def isBo (x : Int) : Prop := x = 43 ∨ x = 45 ∨ x = 42 ∨ x = 47 ∨ x = 37 ∨ x = 256 ∨ x = 257 ∨ x = 60 ∨ x = 258 ∨ x = 62 ∨ x = 259
def isPx : Nat → List Nd → Prop
  | 0, _ => False
  | f + 1, e => (∃ z, e = [z] ∧ (z.1 = 0 ∨ z.1 = 1 ∨ z.1 = 2)) ∨ (∃ a z, e = a ++ [z] ∧ isPx f a ∧ (z.1 = 400 ∨ z.1 = 401)) ∨ ∃ a b z, e = a ++ b ++ [z] ∧ isPx f a ∧ isPx f b ∧ isBo z.1
theorem isPx.up : ∀ {f g : Nat} {e : List Nd}, isPx f e → f ≤ g → isPx g e := sorry
def pxE (e : List Nd) : Prop := ∃ f, isPx f e
theorem pxE.un {a : List Nd} {z : Nd} (h : pxE a) (g : z.1 = 400 ∨ z.1 = 401) : pxE (a ++ [z]) := sorry
theorem pxE.bin {a b : List Nd} {z : Nd} (h : pxE a) (h' : pxE b) (g : isBo z.1) : pxE (a ++ b ++ [z]) := sorry
def ndI (σ σ' : PS) (z : Nd) : Prop := (z.1 = 1 ∨ z.1 = 2 → nmI σ σ' z.2.2) ∧ nmT z.2.2.1 ∧ (z.1 = 0 → 0 ≤ z.2.1 ∧ z.2.1 < 9223372036854775808)
theorem ndI.mono {z : Nd} (h : ndI σ σ' z) (a : sgm T n σ0 σ) (b : sgm T n σ' σ1) : ndI σ0 σ1 z := sorry
theorem ndI.op {x : Int} (h : x ≠ 0 ∧ x ≠ 1 ∧ x ≠ 2) : ndI σ σ' (x, 0, nmZ0) := sorry
def xpI (σ σ' : PS) (e : List Nd) : Prop := (∀ z ∈ e, ndI σ σ' z) ∧ pxE e
theorem xpI.mono {e : List Nd} (h : xpI σ σ' e) (a : sgm T n σ0 σ) (b : sgm T n σ' σ1) : xpI σ0 σ1 e := sorry
theorem xpI.bin {a b : List Nd} {x : Int} (h : xpI σ σ' a) (g : xpI σ σ' b) (k : isBo x) : xpI σ σ' (a ++ b ++ [(x, 0, nmZ0)]) := sorry
def upI (T : Nat → Int) (n : Nat) (U : Nat → PS → Xr) : Prop := ∀ (c : Nat) (σ : PS) (p : List Nd × Nat × PS), psO T n σ → U c σ = .inr p → sgm T n σ p.2.2 ∧ xpI σ p.2.2 p.1
theorem spOpd_sg (hT : ∀ k, k < n → 0 ≤ T k ∧ T k < 256) : upI T n (spOpd T n) := sorry
theorem spMore_sg (hT : ∀ k, k < n → 0 ≤ T k ∧ T k < 256) {r : Nat} {U : Nat → PS → Xr} (hU : upI T n U) (σ0 : PS) (o0 : psO T n σ0) : ∀ (f : Nat) (e : List Nd) (c : Nat) (σ : PS) (p : List Nd × Nat × PS), sgm T n σ0 σ → xpI σ0 σ e → spMore T n r U f e c σ = .inr p → sgm T n σ0 p.2.2 ∧ xpI σ0 p.2.2 p.1 := sorry
theorem spLv_sg (hT : ∀ k, k < n → 0 ≤ T k ∧ T k < 256) {r : Nat} {U : Nat → PS → Xr} (hU : upI T n U) : upI T n (spLv T n r U) := sorry
theorem spSum_sg (hT : ∀ k, k < n → 0 ≤ T k ∧ T k < 256) {U : Nat → PS → Xr} (hU : upI T n U) : upI T n (spSum T n U) := sorry
theorem spExp_sg (hT : ∀ k, k < n → 0 ≤ T k ∧ T k < 256) {U : Nat → PS → Xr} (hU : upI T n U) : upI T n (spExp T n U) := sorry
theorem spU_sg (hT : ∀ k, k < n → 0 ≤ T k ∧ T k < 256) : ∀ F : Nat, upI T n (spU T n F) := sorry
def spI0 (σ σ' : PS) (y : Sp) : Prop := ((y.1 = 0 ∨ y.1 = 1 ∨ y.1 = 2) ∧ nmT y.2.1.1 ∧ (y.1 ≠ 2 → nmI σ σ' y.2.1)) ∧ xpI σ σ' y.2.2
theorem spI0.mono {y : Sp} (h : spI0 σ σ' y) (a : sgm T n σ0 σ) (b : sgm T n σ' σ1) : spI0 σ0 σ1 y := sorry
theorem spSt_sg (hT : ∀ k, k < n → 0 ≤ T k ∧ T k < 256) {c : Nat} {p : Sp × Nat × PS} (o : psO T n σ) (e : spSt T n c σ = .inr p) : sgm T n σ p.2.2 ∧ spI0 σ p.2.2 p.1 := sorry
theorem spSts_sg (hT : ∀ k, k < n → 0 ≤ T k ∧ T k < 256) : ∀ (f c : Nat) (σ : PS) (p : List Sp × Nat × PS), psO T n σ → spSts T n f c σ = .inr p → sgm T n σ p.2.2 ∧ ∀ y ∈ p.1, spI0 σ p.2.2 y := sorry
def clI (σ σ' : PS) (x : Cl) : Prop := (nmI σ σ' x.1 ∧ nmI σ σ' x.2.1 ∧ nmI σ σ' x.2.2.1) ∧ (nuI σ σ' x.2.2.2.1 ∧ 0 ≤ x.2.2.2.1.1) ∧ ∀ y ∈ x.2.2.2.2, spI0 σ σ' y
theorem clI.mono {x : Cl} (h : clI σ σ' x) (a : sgm T n σ0 σ) (b : sgm T n σ' σ1) : clI σ0 σ1 x := sorry
theorem clI.ct {x : Cl} (h : clI σ σ' x) : ctO x := sorry
theorem spCall_sg (hT : ∀ k, k < n → 0 ≤ T k ∧ T k < 256) {j : Nat} {p : Cl × PS} (o : psO T n σ) (e : spCall T n j σ = .inr p) : sgm T n σ p.2 ∧ clI σ p.2 p.1 := sorry
theorem spCalls_sg (hT : ∀ k, k < n → 0 ≤ T k ∧ T k < 256) : ∀ (f j : Nat) (σ : PS) (p : List Cl × PS), psO T n σ → spCalls T n f j σ = .inr p → sgm T n σ p.2 ∧ (∀ x ∈ p.1, clI σ p.2 x) ∧ p.1.Pairwise fun a b => (a.1.2.1 < b.1.2.1 ∧ a.1.2.2 < b.1.2.2) ∧ a.2.2.2.1.2 < b.2.2.2.1.2 := sorry
theorem spCells_sg (hT : ∀ k, k < n → 0 ≤ T k ∧ T k < 256) : ∀ (f j : Nat) (σ : PS) (p : List Nm × PS), psO T n σ → spCells T n f j σ = .inr p → sgm T n σ p.2 ∧ (∀ x ∈ p.1, nmI σ p.2 x) ∧ p.1.Pairwise fun a b => a.2.1 < b.2.1 ∧ a.2.2 < b.2.2 := sorry
def svI (σ σ' : PS) (x : Sd) : Prop := nmI σ σ' x.1 ∧ ((∀ y ∈ x.2.2.1, nmI σ σ' y ∧ x.1.2.1 < y.2.1 ∧ x.1.2.2 < y.2.2) ∧ x.2.2.1.Pairwise fun a b => a.2.1 < b.2.1 ∧ a.2.2 < b.2.2) ∧ ((∀ y ∈ x.2.2.2, clI σ σ' y) ∧ x.2.2.2.Pairwise fun a b => (a.1.2.1 < b.1.2.1 ∧ a.1.2.2 < b.1.2.2) ∧ a.2.2.2.1.2 < b.2.2.2.1.2) ∧ ∀ a ∈ x.2.2.1, ∀ b ∈ x.2.2.2, a.2.1 < b.1.2.1 ∧ a.2.2 < b.1.2.2
theorem svI.mono {x : Sd} (h : svI σ σ' x) (a : sgm T n σ0 σ) (b : sgm T n σ' σ1) : svI σ0 σ1 x := sorry
theorem spSv_sg (hT : ∀ k, k < n → 0 ≤ T k ∧ T k < 256) {nv b : Nat} {p : Sd × PS} (o : psO T n σ) (e : spSv T n nv b σ = .inr p) : sgm T n σ p.2 ∧ svI σ p.2 p.1 ∧ p.1.2.1 = (b, p.2.2.length) := sorry
end ZB
end
section
section ZC
variable {T : Nat → Int} {n : Nat} {σ σ' σ'' σ0 σ1 : PS}
theorem spKeeps_c (hT : ∀ k, k < n → 0 ≤ T k ∧ T k < 256) : ∀ (f : Nat) (σ : PS) (p : List (Int × Nat) × PS), psO T n σ → spKeeps T n f σ = .inr p → 2 * p.1.length + σ.1.2.1 ≤ p.2.1.2.1 := sorry
theorem evK_kp {L : List (Int × Nat)} : evK (L.map Sum.inl) = L := sorry
theorem evK_fs {L : List Fe} : evK (L.map (fun x => Sum.inr (Sum.inr x))) = [] := sorry
theorem spBody_c (hT : ∀ k, k < n → 0 ≤ T k ∧ T k < 256) : ∀ (f no nf : Nat) (σ : PS) (p : List Ev × PS), psO T n σ → spBody T n f no nf σ = .inr p → 2 * (evK p.1).length + σ.1.2.1 ≤ p.2.1.2.1 := sorry
def tdI (σ σ' : PS) (x : Td) : Prop := nmI σ σ' x.2.1 ∧ (x.1 = 0 ∧ x.2.2.2.2 = [] ∧ 0 < x.2.2.2.1.length ∧ (∀ y ∈ x.2.2.2.1, nmI σ σ' y.1 ∧ nuI σ σ' y.2) ∧ (x.2.2.2.1.Pairwise fun a b => a.1.2.1 < b.1.2.1 ∧ a.1.2.2 < b.1.2.2 ∧ a.2.2 < b.2.2) ∨ x.1 = 1 ∧ x.2.2.2.1 = [] ∧ evI σ σ' 0 x.2.2.2.2)
theorem tdI.mono {x : Td} (h : tdI σ σ' x) (a : sgm T n σ0 σ) (b : sgm T n σ' σ1) : tdI σ0 σ1 x := sorry
theorem spEnum_sg (hT : ∀ k, k < n → 0 ≤ T k ∧ T k < 256) {nt b : Nat} {p : Td × PS} (o : psO T n σ) (e : spEnum T n nt b σ = .inr p) : sgm T n σ p.2 ∧ tdI σ p.2 p.1 ∧ p.1.2.2.1 = (b, p.2.2.length) ∧ evK p.1.2.2.2.2 = [] := sorry
theorem spRec_sg (hT : ∀ k, k < n → 0 ≤ T k ∧ T k < 256) {nt b : Nat} {p : Td × PS} (o : psO T n σ) (e : spRec T n nt b σ = .inr p) : sgm T n σ p.2 ∧ tdI σ p.2 p.1 ∧ p.1.2.2.1 = (b, p.2.2.length) ∧ 2 * (evK p.1.2.2.2.2).length + σ.1.2.1 ≤ p.2.1.2.1 := sorry
def drI (σ σ' : PS) (D : Dr) : Prop := (∀ x ∈ D.1, tdI σ σ' x ∧ x.2.2.1.1 ≤ x.2.2.1.2 ∧ x.2.2.1.2 ≤ σ'.2.length) ∧ (∀ x ∈ D.2, svI σ σ' x ∧ x.2.1.1 ≤ x.2.1.2 ∧ x.2.1.2 ≤ σ'.2.length) ∧ (D.1.Pairwise fun a b => a.2.1.2.1 < b.2.1.2.1 ∧ a.2.1.2.2 < b.2.1.2.2) ∧ (D.2.Pairwise fun a b => a.1.2.1 < b.1.2.1 ∧ a.1.2.2 < b.1.2.2) ∧ ∀ a ∈ D.1, ∀ b ∈ D.2, a.2.1.2.1 < b.1.2.1 ∧ a.2.1.2.2 < b.1.2.2 ∨ b.1.2.1 < a.2.1.2.1 ∧ b.1.2.2 < a.2.1.2.2
theorem drI.ty {D : Dr} {x : Td} {b : Nat} (h : drI σ0 σ D) (s : sgm T n σ0 σ) (s1 : sgm T n σ σ1) (s2 : sgm T n σ1 σ') (t : tdI σ1 σ' x) (tx : x.2.2.1 = (b, σ'.2.length)) (hb : b ≤ σ'.2.length) (o : psO T n σ0) : drI σ0 σ' (D.1 ++ [x], D.2) := sorry
theorem drI.sv {D : Dr} {x : Sd} {b : Nat} (h : drI σ0 σ D) (s : sgm T n σ0 σ) (s1 : sgm T n σ σ1) (s2 : sgm T n σ1 σ') (t : svI σ1 σ' x) (tx : x.2.1 = (b, σ'.2.length)) (hb : b ≤ σ'.2.length) (o : psO T n σ0) : drI σ0 σ' (D.1, D.2 ++ [x]) := sorry
theorem spAll_sg (hT : ∀ k, k < n → 0 ≤ T k ∧ T k < 256) (o : psO T n σ0) : ∀ (f : Nat) (D : Dr) (σ : PS) (p : Dr × PS), sgm T n σ0 σ → drI σ0 σ D → 2 * (kpL 120 D.1).length ≤ σ.1.2.1 → spAll T n f D σ = .inr p → sgm T n σ0 p.2 ∧ drI σ0 p.2 p.1 ∧ 2 * (kpL 120 p.1.1).length ≤ p.2.1.2.1 := sorry
end ZC
end
section
section ZD
variable {T : Nat → Int} {n : Nat} {σ σ' σ0 : PS} {D : Dr} {W : List Int}
theorem pw_get {α : Type} {R : α → α → Prop} {L : List α} (h : L.Pairwise R) {i j : Nat} {a b : α} (ha : L[i]? = some a) (hb : L[j]? = some b) (ij : i < j) : R a b := sorry
theorem evF_N {E : List Ev} {y : Fe} (h : y ∈ evF E) : y.2.2.2.2.1 ∈ evN E := sorry
theorem evO_N {E : List Ev} {y : Nm} (h : y ∈ evO E) : y ∈ evN E := sorry
theorem drI.O (h : drI σ0 σ D) (k : (kpL 120 D.1).length ≤ 2200) : drO D := sorry
theorem drI.P (h : drI σ0 σ D) (l : σ.2.length ≤ 8000) : drP D σ.2 := sorry
theorem spText_ok (hT : ∀ k, k < n → 0 ≤ T k ∧ T k < 256) (n4 : n ≤ 4000) (e : spText T n = .inr (D, W)) : ∃ σ0 σ : PS, σ.2 = W ∧ σ0.2 = [] ∧ sgm T n σ0 σ ∧ drI σ0 σ D ∧ drO D ∧ drP D W := sorry
end ZD
end
section
section ZE
variable {μ μ' μ'' μ0 ν : ab_M} {d : Nat} {D : Dr} {W tp : List Int} {s : Nat}
def fgS (s : Nat) (μ μ' : ab_M) : Prop := (∀ m, m < 12 → μ' 7862 m = if μ 7862 m ≠ 0 ∧ μ 7863 m = s then 0 else μ 7862 m) ∧ (μ 7756 260 ≠ 0 ∧ μ 7756 261 = s → μ' 7756 260 = 0 ∧ μ' 7756 264 = 0 ∧ μ' 7756 268 = 0 ∧ μ' 7756 273 = 0 ∧ μ' 7756 298 = 0 ∧ μ' 7756 297 = 0) ∧ (¬ (μ 7756 260 ≠ 0 ∧ μ 7756 261 = s) → μ' 7756 260 = μ 7756 260 ∧ μ' 7756 264 = μ 7756 264 ∧ μ' 7756 268 = μ 7756 268 ∧ μ' 7756 273 = μ 7756 273 ∧ μ' 7756 298 = μ 7756 298 ∧ μ' 7756 297 = μ 7756 297) ∧ ∀ c, c < 3 → μ' 7945 c = if μ 7945 c ≠ 0 ∧ (μ 7946 c = s ∨ μ' 7756 260 = 0) then 0 else μ 7945 c
def frFg (μ μ' : ab_M) : Prop := ∀ a i, a ≠ 7862 → a ≠ 7945 → (a ≠ 7756 ∨ i ≠ 260 ∧ i ≠ 264 ∧ i ≠ 268 ∧ i ≠ 273 ∧ i ≠ 298 ∧ i ≠ 297) → μ' a i = μ a i
theorem tw_fg2 : ∀ (n m : Nat) (μ : ab_M), m + n = 12 → ∃ μ', (ab_run wt (d + 1) 70 2 [(2, 7756), (0, s), (0, m)] [] μ) = (ab_run wt (d + 1) 70 2 [(2, 7756), (0, s), (0, (((12 : Nat) : Int)))] [] μ') ∧ (∀ k, μ' 7862 k = if m ≤ k ∧ k < 12 ∧ μ 7862 k ≠ 0 ∧ μ 7863 k = s then 0 else μ 7862 k) ∧ ∀ a i, a ≠ 7862 → μ' a i = μ a i := sorry
theorem tw_fg86 : ∀ (n m : Nat) (μ : ab_M), m + n = 3 → ∃ μ', (ab_run wt (d + 1) 70 86 [(2, 7756), (0, s), (0, m)] [] μ) = some ((3, 0), μ') ∧ (∀ k, μ' 7945 k = if m ≤ k ∧ k < 3 ∧ μ 7945 k ≠ 0 ∧ (μ 7946 k = s ∨ μ 7756 260 = 0) then 0 else μ 7945 k) ∧ ∀ a i, a ≠ 7945 → μ' a i = μ a i := sorry
theorem tw_forgetSchema : ∃ μ', (ab_run wt (d + 2) 70 0 [(2, 7756), (0, s), (3, 0)] [] μ) = some ((3, 0), μ') ∧ fgS s μ μ' ∧ frFg μ μ' := sorry
end ZE
end
