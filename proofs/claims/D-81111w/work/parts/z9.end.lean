theorem zz_end : True := trivial
