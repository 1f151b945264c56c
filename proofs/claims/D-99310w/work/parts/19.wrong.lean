/-! 'new Wrong()': three instructions in one op -/
def o_makeW : AOp := og (α := Unit) (fun _ => some ()) (fun cf _ => (cf.1, .ref cf.2.2.1 :: cf.2.1, hpush cf.2.2 7 (.inl (3, [.int 0]))))
theorem ok_makeW : AOk o_makeW := og_ok fun cf a h => hpush_le
theorem snd_makeW {MI : Nat → AMI} {w : AW} {X : AMI} {d pc ik ic : Nat} (d0 : decode X.2.1 pc = .ok (.new ik, 3)) (d1 : decode X.2.1 (pc + 3) = .ok (.dup, 1)) (d2 : decode X.2.1 (pc + 4) = .ok (.invokespecial ic, 3)) : Snd MI w X d pc (pc + 7) o_makeW := sorry
