/-! ===== a call through an interface: by one of several classes ===== -/
def zo_or (a b : zz_O) : zz_O := fun lv st M N K => a lv st M N K ∨ b lv st M N K
theorem zz_or {C : mm_C} {pc : Nat} {a b : zz_O} (ha : zz_OK C pc a) (hb : zz_OK C pc b) : zz_OK C pc (zo_or a b) := fun lv st M N K hK h => h.elim (ha lv st M N K hK) (hb lv st M N K hK)
