set_option maxRecDepth 100000

section
variable {p : Program} {l : Launch} {e : Env} {s : State} {m : MethodId} {args : Array Value} {below : List Frame} {meth : Method} {c : Code} {g : gG} {F : nM} {adr : Nat → Nat}
end
