/-! ===== loops ===== -/
set_option maxRecDepth 100000
section GWLP
variable {p : Program} {l : Launch} {e : Env} {R : Room} {s : State} {m : MethodId} {args : Array Value} {below : List Frame} {meth : Method} {c : Code} {Q : State → Prop}
variable {D : va_G} {X : Nat → Nat} {b0 nL bc bs pc q : Nat} {own : String} {cc : ByteArray} {ret : Option FieldType} {G : gM} {lv lv' lv1 : List (Option Value)} {st : List Value}
theorem gw_loop {σ : Type} (I : σ → Prop) (μ : σ → Nat) (Gf : σ → gM) (lvf : σ → List (Option Value)) (step : ∀ x : σ, I x → (∀ y : σ, I y → μ y < μ x → GW p l e R s m args below meth c D b0 nL Q (Gf y) bc bs pc (lvf y) st) → GW p l e R s m args below meth c D b0 nL Q (Gf x) bc bs pc (lvf x) st) (x0 : σ) (h0 : I x0) : GW p l e R s m args below meth c D b0 nL Q (Gf x0) bc bs pc (lvf x0) st := by
  have key : ∀ (n : Nat) (x : σ), μ x < n → I x → GW p l e R s m args below meth c D b0 nL Q (Gf x) bc bs pc (lvf x) st := by
    intro n
    induction n with
    | zero => intro x h; omega
    | succ n ih => exact fun x h hI => step x hI (fun y hy hlt => ih y (by omega) hy)
  exact key (μ x0 + 1) x0 (Nat.lt_succ_self _) h0
/-- the same, the room left being of the state too -/
theorem gw_loopB {σ : Type} (I : σ → Prop) (μ : σ → Nat) (Gf : σ → gM) (lvf : σ → List (Option Value)) (cf sf : σ → Nat) (step : ∀ x : σ, I x → (∀ y : σ, I y → μ y < μ x → GW p l e R s m args below meth c D b0 nL Q (Gf y) (cf y) (sf y) pc (lvf y) st) → GW p l e R s m args below meth c D b0 nL Q (Gf x) (cf x) (sf x) pc (lvf x) st) (x0 : σ) (h0 : I x0) : GW p l e R s m args below meth c D b0 nL Q (Gf x0) (cf x0) (sf x0) pc (lvf x0) st := by
  have key : ∀ (n : Nat) (x : σ), μ x < n → I x → GW p l e R s m args below meth c D b0 nL Q (Gf x) (cf x) (sf x) pc (lvf x) st := by
    intro n
    induction n with
    | zero => intro x h; omega
    | succ n ih => exact fun x h hI => step x hI (fun y hy hlt => ih y (by omega) hy)
  exact key (μ x0 + 1) x0 (Nat.lt_succ_self _) h0
/-- less room -/
theorem gw_lessB {bc' bs' : Nat} (h1 : bc' ≤ bc) (h2 : bs' ≤ bs) (kk : GW p l e R s m args below meth c D b0 nL Q G bc' bs' pc lv st) : GW p l e R s m args below meth c D b0 nL Q G bc bs pc lv st := fun H locs ls cells slots a b => kk H locs ls cells slots (by omega) (by omega)
end GWLP

